/-! take -/
section TAKE
set_option maxRecDepth 100000
variable {g : xG} {l : Launch} {h h0 h' : xH}
theorem SLT.row2 {ow : Nat → Option Nat} {s s' : Row} {j : Nat} {o : Option Nat} (hS : SLT g h ow s j o) (hb : s (154 + j) = 1 → WF (fun k => s (156 + 154 * j + k))) (h1 : s' (154 + j) = s (154 + j)) (h2 : ∀ k, k < 154 → s' (156 + 154 * j + k) = s (156 + 154 * j + k)) : SLT g h ow s' j o := by
  rcases hS with ⟨r1, r2⟩ | ⟨q, r1, r2, r3⟩
  · exact Or.inl ⟨r1, h1.trans r2⟩
  · exact Or.inr ⟨q, r1, h1.trans r2, r3.row (hb r2).nb h2⟩
theorem WS.sl {s : Row} (hW : WS s) {j : Nat} (hj : j < 2) (h1 : s (154 + j) = 1) : WF (fun k => s (156 + 154 * j + k)) := by
  rcases hW.2 j hj with r | r
  · rw [h1] at r; exact absurd r (by decide)
  · exact r.2
theorem ST.take {h1 : xH} {ow : Nat → Option Nat} {cb dq arr hd sb tb len m n : Nat} {tx : Nat → Nat} {x : HE} {hs : List HE} (hS : ST g h ow cb dq arr hd sb tb len tx x hs) (hx : h (xca g 0 0) = none) (hx1 : h1 (xca g 0 0) = none) (hm : m ≠ x.1) (hn : n < 2) {q sl : Nat} {P' : Nat → Nat} {f : Nat → Option Nat} {xs ys : List Nat} {s' : Row} (d1 : h x.1 = some (.inr (1, [.ref x.2.1, .ref sl]))) (d2 : h sl = some (.inl (xdA g 6, 2, .inr (.inr (.inr (.inr f)))))) (c1 : SHP g h1 q P' x.2.2 xs ys) (c2 : h q = none) (c3 : ∀ i, i < 6 → h (P' i) = none) (c4 : P' 6 = xca g 0 0 ∨ h (P' 6) = none) (c5 : P' 7 = xca g 0 0 ∨ h (P' 7) = none) (hl : xle h h1) (hW : WS s') (e1 : ∀ k, k < 154 → s' k = x.2.2 k) (e2 : s' (154 + n) = 1) (e3 : ∀ k, k < 154 → s' (156 + 154 * n + k) = x.2.2 k) (e4 : ∀ j, j < 2 → j ≠ n → s' (154 + j) = x.2.2 (154 + j) ∧ ∀ k, k < 154 → s' (156 + 154 * j + k) = x.2.2 (156 + 154 * j + k)) :
    ∃ ow', ST g (xu h1 sl (.inl (xdA g 6, 2, .inr (.inr (.inr (.inr (va_up f n (some q)))))))) ow' cb dq arr hd sb tb len tx (x.1, x.2.1, s') hs ∧ KP ow m h ow' (xu h1 sl (.inl (xdA g 6, 2, .inr (.inr (.inr (.inr (va_up f n (some q)))))))) := by
  obtain ⟨h1_, hdk, nd1, nd2, hD, hSB, ⟨o1, o2, o3, o4, o5⟩, hlen, hl120⟩ := hS
  have hdq := hD.1
  obtain ⟨-, -, -, -, fa, harr, -⟩ := id hD
  obtain ⟨ml, cap, ff, -, s1, s2, -⟩ := id hSB
  obtain ⟨⟨sl2, f2, d1', d2', w1, w2, hSH, hT⟩, hWx⟩ := hdk x (by simp)
  rw [d1] at d1'; cases d1'
  rw [d2] at d2'; cases d2'
  have K : ∀ a e, h a = some e → ow a ≠ some x.1 → (xu h1 sl (.inl (xdA g 6, 2, .inr (.inr (.inr (.inr (va_up f n (some q)))))))) a = some e := fun a e ha hc => (xu_n (fun z => hc (by rw [z]; exact w2))).trans (hl a e ha)
  have KS : ∀ a e, h a = some e → isSN e = true → (xu h1 sl (.inl (xdA g 6, 2, .inr (.inr (.inr (.inr (va_up f n (some q)))))))) a = some e := fun a e ha hq => (xu_n (fun z => by rw [z, d2] at ha; cases ha; cases hq)).trans (hl a e ha)
  have hw : ∀ a, h a ≠ none → (if h a = none then none else ow a) = ow a := fun a ha => if_neg ha
  have ncls : ∀ a c fs, c ≠ 1 → h a = some (.inr (c, fs)) → a ≠ x.1 := fun a c fs hc ha z => by rw [z, d1] at ha; cases ha; exact hc rfl
  have nx : x.2.1 ≠ x.1 := by obtain ⟨P, zs, zt, hP, -⟩ := id hSH; exact ncls _ _ _ (by omega) hP.1
  refine ⟨fun a => if h a = none then none else ow a, ⟨K _ _ h1_ (by rw [o1]; exact fun z => ncls _ _ _ (by omega) h1_ (Option.some.inj z)), fun y hy => ?_, nd1, nd2, ?_, ?_, ⟨(hw _ (by rw [h1_]; simp)).trans o1, (hw _ (by rw [hdq]; simp)).trans o2, (hw _ (by rw [harr]; simp)).trans o3, (hw _ (by rw [s1]; simp)).trans o4, (hw _ (by rw [s2]; simp)).trans o5⟩, hlen, hl120⟩, fun a e ha hq => K a e ha (by rw [hq]; exact fun z => hm (Option.some.inj z)), fun a ha => if_neg ha⟩
  · rcases List.mem_cons.mp hy with r | r
    · rw [r]
      refine ⟨⟨sl, va_up f n (some q), (xu_n (fun z => by rw [z, d2] at d1; cases d1)).trans (hl _ _ d1), xu_s _ _ _, (hw _ (by rw [d1]; simp)).trans w1, (hw _ (by rw [d2]; simp)).trans w2, (hSH.kp hx (fun a e ha p => ?_) (fun a ha hn => (hw a hn).trans ha)).row hWx.1.nb e1, fun j hj => ?_⟩, hW⟩
      · rcases p with p | p
        · exact K a e ha (by rw [p]; exact fun z => nx (Option.some.inj z))
        · exact KS a e ha p
      · by_cases hjn : j = n
        · subst hjn
          rw [va_up_s]
          refine Or.inr ⟨q, rfl, e2, SH.row (s := x.2.2) ?_ hWx.1.nb e3⟩
          have hSq : SH g h1 (fun a => h a = none) q x.2.2 := ⟨P', xs, ys, c1, c2, c3, c4, c5⟩
          refine hSq.kp hx1 (fun a e ha p => (xu_n (fun z => ?_)).trans ha) (fun a ha _ => if_pos ha)
          rcases p with p | p
          · rw [z, d2] at p; cases p
          · have := hl _ _ d2; rw [← z, ha] at this; cases this; cases p
        · rw [va_up_n _ _ hjn]
          obtain ⟨y1, y2⟩ := e4 j hj hjn
          refine ((hT j hj).kp hx (fun a e ha p => ?_) hw).row2 (hWx.sl hj) y1 y2
          rcases p with p | p
          · exact K a e ha (by rw [p]; simp)
          · exact KS a e ha p
    · have hyD := hdk y (List.mem_cons.mpr (Or.inr r))
      have hy1 : y.1 ≠ x.1 := fun z => by
        rw [List.map_cons, List.nodup_cons] at nd1
        exact nd1.1 (by rw [← z]; exact List.mem_map.mpr ⟨y, r, rfl⟩)
      have hy2 : y.2.1 ≠ x.1 := by obtain ⟨⟨_, _, _, -, -, -, ⟨P, zs, zt, hP, -⟩, -⟩, -⟩ := hyD; exact ncls _ _ _ (by omega) hP.1
      refine ⟨hyD.1.kp hx (fun a e ha p => ?_) hw, hyD.2⟩
      rcases p with p | p | p | p
      · exact K a e ha (by rw [p]; exact fun z => hy1 (Option.some.inj z))
      · exact K a e ha (by rw [p]; exact fun z => hy2 (Option.some.inj z))
      · exact K a e ha (by rw [p]; simp)
      · exact KS a e ha p
  · have nq : some dq ≠ some x.1 := fun z => ncls _ _ _ (by omega) hdq (Option.some.inj z)
    exact hD.le2 (fun e he => K _ _ he (by rw [o2]; exact nq)) (fun e he => K _ _ he (by rw [o3]; exact nq))
  · have nq : some sb ≠ some x.1 := fun z => ncls _ _ _ (by omega) s1 (Option.some.inj z)
    exact hSB.le2 (fun e he => K _ _ he (by rw [o4]; exact nq)) (fun e he => K _ _ he (by rw [o5]; exact nq))
end TAKE

/-! restore: the state -/
section RESTORE
set_option maxRecDepth 100000
variable {g : xG} {l : Launch} {h h0 h' : xH}
theorem ST.res {h1 : xH} {ow : Nat → Option Nat} {cb dq arr hd sb tb len m : Nat} {tx : Nat → Nat} {x : HE} {hs : List HE} (hS : ST g h ow cb dq arr hd sb tb len tx x hs) (hx : h (xca g 0 0) = none) (hx1 : h1 (xca g 0 0) = none) (hm : m ≠ x.1) {q sl : Nat} {P' : Nat → Nat} {f : Nat → Option Nat} {xs ys : List Nat} {s' s0 : Row} (d1 : h x.1 = some (.inr (1, [.ref x.2.1, .ref sl]))) (d2 : h sl = some (.inl (xdA g 6, 2, .inr (.inr (.inr (.inr f)))))) (c1 : SHP g h1 q P' s0 xs ys) (c2 : h q = none) (c3 : ∀ i, i < 6 → h (P' i) = none) (c4 : P' 6 = xca g 0 0 ∨ h (P' 6) = none) (c5 : P' 7 = xca g 0 0 ∨ h (P' 7) = none) (hl : xle h h1) (hW : WS s') (hW0 : WF s0) (e1 : ∀ k, k < 154 → s' k = s0 k) (e4 : ∀ k, 154 ≤ k → s' k = x.2.2 k) :
    ∃ ow', ST g (xu h1 x.1 (.inr (1, [.ref q, .ref sl]))) ow' cb dq arr hd sb tb len tx (x.1, q, s') hs ∧ KP ow m h ow' (xu h1 x.1 (.inr (1, [.ref q, .ref sl]))) := by
  obtain ⟨h1_, hdk, nd1, nd2, hD, hSB, ⟨o1, o2, o3, o4, o5⟩, hlen, hl120⟩ := hS
  have hdq := hD.1
  obtain ⟨-, -, -, -, fa, harr, -⟩ := id hD
  obtain ⟨ml, cap, ff, -, s1, s2, -⟩ := id hSB
  obtain ⟨⟨sl2, f2, d1', d2', w1, w2, hSH, hT⟩, hWx⟩ := hdk x (by simp)
  rw [d1] at d1'; cases d1'
  rw [d2] at d2'; cases d2'
  have K0 : ∀ a e, h a = some e → a ≠ x.1 → (xu h1 x.1 (.inr (1, [.ref q, .ref sl]))) a = some e := fun a e ha hc => (xu_n hc).trans (hl a e ha)
  have K : ∀ a e, h a = some e → ow a ≠ some x.1 → (xu h1 x.1 (.inr (1, [.ref q, .ref sl]))) a = some e := fun a e ha hc => K0 a e ha (fun z => hc (by rw [z]; exact w1))
  have KS : ∀ a e, h a = some e → isSN e = true → (xu h1 x.1 (.inr (1, [.ref q, .ref sl]))) a = some e := fun a e ha hq => K0 a e ha (fun z => by rw [z, d1] at ha; cases ha; cases hq)
  have hw : ∀ a, h a ≠ none → (if h a = none then some q else ow a) = ow a := fun a ha => if_neg ha
  have ncls : ∀ a c fs, c ≠ 1 → h a = some (.inr (c, fs)) → a ≠ x.1 := fun a c fs hc ha z => by rw [z, d1] at ha; cases ha; exact hc rfl
  have hqn : ∀ y ∈ hs, y.2.1 ≠ q := fun y hy z => by
    obtain ⟨⟨_, _, _, -, -, -, ⟨P, zs, zt, hP, -⟩, -⟩, -⟩ := hdk y (List.mem_cons.mpr (Or.inr hy))
    have := hP.1; rw [z, c2] at this; cases this
  refine ⟨fun a => if h a = none then some q else ow a, ⟨K _ _ h1_ (by rw [o1]; exact fun z => ncls _ _ _ (by omega) h1_ (Option.some.inj z)), fun y hy => ?_, nd1, ?_, ?_, ?_, ⟨(hw _ (by rw [h1_]; simp)).trans o1, (hw _ (by rw [hdq]; simp)).trans o2, (hw _ (by rw [harr]; simp)).trans o3, (hw _ (by rw [s1]; simp)).trans o4, (hw _ (by rw [s2]; simp)).trans o5⟩, hlen, hl120⟩, fun a e ha hq => K a e ha (by rw [hq]; exact fun z => hm (Option.some.inj z)), fun a ha => if_neg ha⟩
  · rcases List.mem_cons.mp hy with r | r
    · rw [r]
      have hSq : SH g h1 (fun a => h a = none) q s0 := ⟨P', xs, ys, c1, c2, c3, c4, c5⟩
      refine ⟨⟨sl, f, xu_s _ _ _, K0 _ _ d2 (fun z => by rw [z, d1] at d2; cases d2), (hw _ (by rw [d1]; simp)).trans w1, (hw _ (by rw [d2]; simp)).trans w2, (hSq.kp hx1 (fun a e ha p => (xu_n (fun z => ?_)).trans ha) (fun a ha _ => if_pos ha)).row hW0.nb e1, fun j hj => ((hT j hj).kp hx (fun a e ha p => ?_) hw).row hj e4⟩, hW⟩
      · rcases p with p | p
        · rw [z, d1] at p; cases p
        · have := hl _ _ d1; rw [← z, ha] at this; cases this; cases p
      · rcases p with p | p
        · exact K a e ha (by rw [p]; simp)
        · exact KS a e ha p
    · have hyD := hdk y (List.mem_cons.mpr (Or.inr r))
      have hy1 : y.1 ≠ x.1 := fun z => by
        rw [List.map_cons, List.nodup_cons] at nd1
        exact nd1.1 (by rw [← z]; exact List.mem_map.mpr ⟨y, r, rfl⟩)
      have hy2 : y.2.1 ≠ x.1 := by obtain ⟨⟨_, _, _, -, -, -, ⟨P, zs, zt, hP, -⟩, -⟩, -⟩ := hyD; exact ncls _ _ _ (by omega) hP.1
      refine ⟨hyD.1.kp hx (fun a e ha p => ?_) hw, hyD.2⟩
      rcases p with p | p | p | p
      · exact K a e ha (by rw [p]; exact fun z => hy1 (Option.some.inj z))
      · exact K a e ha (by rw [p]; exact fun z => hy2 (Option.some.inj z))
      · exact K a e ha (by rw [p]; simp)
      · exact KS a e ha p
  · rw [List.map_cons, List.nodup_cons] at nd2 ⊢
    exact ⟨fun z => by obtain ⟨y, hy, he⟩ := List.mem_map.mp z; exact hqn y hy he, nd2.2⟩
  · have nq : some dq ≠ some x.1 := fun z => ncls _ _ _ (by omega) hdq (Option.some.inj z)
    exact hD.le2 (fun e he => K _ _ he (by rw [o2]; exact nq)) (fun e he => K _ _ he (by rw [o3]; exact nq))
  · have nq : some sb ≠ some x.1 := fun z => ncls _ _ _ (by omega) s1 (Option.some.inj z)
    exact hSB.le2 (fun e he => K _ _ he (by rw [o4]; exact nq)) (fun e he => K _ _ he (by rw [o5]; exact nq))
end RESTORE

/-! a command is carried out on the desk's sheet -/
section PERFORM2
set_option maxRecDepth 100000
variable {g : xG} {l : Launch} {h h0 h' : xH}
theorem SH.mono {O O' : Nat → Prop} {sh : Nat} {s : Row} (hS : SH g h O sh s) (hO : ∀ a, O a → O' a) : SH g h O' sh s := by
  obtain ⟨P, xs, ys, h1, o1, o2, o3, o4⟩ := hS
  exact ⟨P, xs, ys, h1, hO _ o1, fun i hi => hO _ (o2 i hi), o3.imp id (hO _), o4.imp id (hO _)⟩
theorem SLT.row {ow : Nat → Option Nat} {s s' : Row} {j : Nat} {o : Option Nat} (hj : j < 2) (hS : SLT g h ow s j o) (hs : ∀ k, 154 ≤ k → s' k = s k) : SLT g h ow s' j o := by
  rcases hS with ⟨r1, r2⟩ | ⟨q, r1, r2, r3⟩
  · exact Or.inl ⟨r1, (hs _ (by omega)).trans r2⟩
  · refine Or.inr ⟨q, r1, (hs _ (by omega)).trans r2, ?_⟩
    rw [show (fun k => s' (156 + 154 * j + k)) = (fun k => s (156 + 154 * j + k)) from funext (fun k => hs _ (by omega))]
    exact r3
theorem ST.cy {h1 : xH} {ow : Nat → Option Nat} {cb dq arr hd sb tb len m : Nat} {tx : Nat → Nat} {x : HE} {hs : List HE} (hS : ST g h ow cb dq arr hd sb tb len tx x hs) (hx : h (xca g 0 0) = none) (hm : m ≠ x.2.1) {s' : Row} (hR : RS g (fun a => ow a = some x.2.1) h x.2.1 s' h1) (hW : WS s') (hs154 : ∀ k, 154 ≤ k → s' k = x.2.2 k) :
    ∃ ow', ST g h1 ow' cb dq arr hd sb tb len tx (x.1, x.2.1, s') hs ∧ KP ow m h ow' h1 := by
  obtain ⟨hRS, hRl⟩ := hR
  obtain ⟨h1_, hdk, nd1, nd2, hD, hSB, ⟨o1, o2, o3, o4, o5⟩, hlen, hl120⟩ := hS
  have hdq := hD.1
  obtain ⟨-, -, -, -, fa, harr, -⟩ := id hD
  obtain ⟨ml, cap, ff, -, s1, s2, -⟩ := id hSB
  obtain ⟨⟨sl, f, d1, d2, w1, w2, hSH, hT⟩, -⟩ := hdk x (by simp)
  have hshc : ∃ P zs zt, SHP g h x.2.1 P x.2.2 zs zt := by obtain ⟨P, zs, zt, hP, -⟩ := hSH; exact ⟨P, zs, zt, hP⟩
  obtain ⟨PP, zs, zt, hP⟩ := hshc
  have hsc := hP.1
  have K : ∀ a e, h a = some e → ow a ≠ some x.2.1 → h1 a = some e := fun a e ha hn => hRl a e ha (Or.inl hn)
  have hw : ∀ a, h a ≠ none → (if h a = none then some x.2.1 else ow a) = ow a := fun a ha => if_neg ha
  have ncls : ∀ a c fs, c ≠ 2 → h a = some (.inr (c, fs)) → a ≠ x.2.1 := fun a c fs hc ha z => by rw [z, hsc] at ha; unfold shE at ha; cases ha; exact hc rfl
  refine ⟨fun a => if h a = none then some x.2.1 else ow a, ⟨K _ _ h1_ (by rw [o1]; exact fun z => ncls _ _ _ (by omega) h1_ (Option.some.inj z)), fun y hy => ?_, nd1, nd2, ?_, ?_, ⟨(hw _ (by rw [h1_]; simp)).trans o1, (hw _ (by rw [hdq]; simp)).trans o2, (hw _ (by rw [harr]; simp)).trans o3, (hw _ (by rw [s1]; simp)).trans o4, (hw _ (by rw [s2]; simp)).trans o5⟩, hlen, hl120⟩, fun a e ha hq => K a e ha (by rw [hq]; exact fun z => hm (Option.some.inj z)), fun a ha => if_neg ha⟩
  · rcases List.mem_cons.mp hy with r | r
    · rw [r]
      have nx : some x.1 ≠ some x.2.1 := fun z => ncls _ _ _ (by omega) d1 (Option.some.inj z)
      refine ⟨⟨sl, f, K _ _ d1 (by rw [w1]; exact nx), K _ _ d2 (by rw [w2]; exact nx), (hw _ (by rw [d1]; simp)).trans w1, (hw _ (by rw [d2]; simp)).trans w2, hRS.mono (fun a ha => ?_), fun j hj => ((hT j hj).kp hx (fun a e ha q => ?_) hw).row hj hs154⟩, hW⟩
      · show (if h a = none then some x.2.1 else ow a) = some x.2.1
        by_cases z : h a = none
        · rw [if_pos z]
        · rw [if_neg z]; exact ha.resolve_right z
      · rcases q with q | q
        · exact K a e ha (by rw [q]; simp)
        · exact hRl a e ha (Or.inr q)
    · have hyD := hdk y (List.mem_cons.mpr (Or.inr r))
      have hy1 : y.1 ≠ x.2.1 := by obtain ⟨⟨sl, f, e1, -⟩, -⟩ := hyD; exact ncls _ _ _ (by omega) e1
      have hy2 : y.2.1 ≠ x.2.1 := fun z => by
        rw [List.map_cons, List.nodup_cons] at nd2
        exact nd2.1 (by rw [← z]; exact List.mem_map.mpr ⟨y, r, rfl⟩)
      refine ⟨hyD.1.kp hx (fun a e ha q => ?_) hw, hyD.2⟩
      rcases q with q | q | q | q
      · exact K a e ha (by rw [q]; exact fun z => hy1 (Option.some.inj z))
      · exact K a e ha (by rw [q]; exact fun z => hy2 (Option.some.inj z))
      · exact K a e ha (by rw [q]; simp)
      · exact hRl a e ha (Or.inr q)
  · have nq : some dq ≠ some x.2.1 := fun z => ncls _ _ _ (by omega) hdq (Option.some.inj z)
    exact hD.le2 (fun e he => K _ _ he (by rw [o2]; exact nq)) (fun e he => K _ _ he (by rw [o3]; exact nq))
  · have nq : some sb ≠ some x.2.1 := fun z => ncls _ _ _ (by omega) s1 (Option.some.inj z)
    exact hSB.le2 (fun e he => K _ _ he (by rw [o4]; exact nq)) (fun e he => K _ _ he (by rw [o5]; exact nq))
theorem KP.tr {ow ow' ow'' : Nat → Option Nat} {m : Nat} {h1 h2 : xH} (a : KP ow m h ow' h1) (b : KP ow' m h1 ow'' h2) (hl : ∀ p, h p ≠ none → h1 p ≠ none) : KP ow m h ow'' h2 :=
  ⟨fun p e hp hq => b.1 p e (a.1 p e hp hq) ((a.2 p (by rw [hp]; simp)).trans hq), fun p hp => (b.2 p (hl p hp)).trans (a.2 p hp)⟩
theorem cmF_neg {k : Nat} {a : Nat → Int32} {s : Row} {e : Int32} (h : cmF k a s = .inl e) : e < 0 := by
  have L : ∀ {c : Prop} [Decidable c] {x : Int32} {r : CRes}, (x < 0) → (r = .inl e → e < 0) → (if c then .inl x else r) = .inl e → e < 0 := fun {c} _ {x} {r} hx hr q => by
    split at q
    · cases q; exact hx
    · exact hr q
  unfold cmF at h
  split at h
  · unfold c_setSheet at h; split at h <;> cases h; decide
  · unfold c_fold at h; exact L (by decide) (L (by decide) (fun z => by cases z)) h
  · unfold c_unfold at h; exact L (by decide) (fun z => by cases z) h
  · unfold c_setSpine at h; exact L (by decide) (L (by decide) (fun z => by cases z)) h
  · unfold c_print at h; exact L (by decide) (L (by decide) (fun z => by cases z)) h
  · unfold c_printAll at h; exact L (by decide) (L (by decide) (fun z => by cases z)) h
  · unfold c_cut at h; exact L (by decide) (L (by decide) (fun z => by cases z)) h
  · unfold c_staple at h; exact L (by decide) (L (by decide) (L (by decide) (fun z => by cases z))) h
  · unfold c_unstaple at h; exact L (by decide) (L (by decide) (fun z => by cases z)) h
  · unfold c_setLegs at h; exact L (by decide) (fun z => by cases z) h
  · unfold c_see at h; exact L (by decide) (L (by decide) (fun z => by cases z)) h
  · unfold c_forget at h; cases h
  · unfold c_addNote at h; exact L (by decide) (L (by decide) (fun z => by cases z)) h
  · unfold c_removeNote at h; exact L (by decide) (fun z => by cases z) h
  · unfold c_setLines at h; exact L (by decide) (fun z => by cases z) h
end PERFORM2

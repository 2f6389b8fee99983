/-! remembering a copy of the desk -/
section PERFORM
set_option maxRecDepth 100000
variable {g : xG} {l : Launch} {h h0 h' : xH}
def rmH (hs : List HE) : List HE := if hs.length = 5 then hs.tail else hs
theorem rmH_sub (hs : List HE) : (rmH hs).Sublist hs := by unfold rmH; split; exact List.tail_sublist _; exact List.Sublist.refl _
theorem rmH_len {hs : List HE} (h : hs.length ≤ 5) : (rmH hs).length ≤ 4 := by unfold rmH; split; (rw [List.length_tail]; omega); omega
theorem rmH_map (hs : List HE) : (if (hs.map (fun y => y.1)).length = 5 then (hs.map (fun y => y.1)).tail else hs.map (fun y => y.1)) = (rmH hs).map (fun y => y.1) := by
  unfold rmH; rw [List.length_map]; split <;> simp
theorem ST.rem {h1 h2 : xH} {ow : Nat → Option Nat} {cb dq arr hd hd' sb tb len m : Nat} {tx : Nat → Nat} {x : HE} {hs : List HE} (hS : ST g h ow cb dq arr hd sb tb len tx x hs) (hx : h (xca g 0 0) = none) (hx1 : h1 (xca g 0 0) = none) (hm : m ≠ dq) {q q' sl' : Nat} {P' : Nat → Nat} {f' : Nat → Option Nat} {xs ys : List Nat} (hsl : ∀ sl f, h x.1 = some (.inr (1, [.ref x.2.1, .ref sl])) → h sl = some (.inl (xdA g 6, 2, .inr (.inr (.inr (.inr f))))) → ∀ j, j < 2 → f' j = f j) (c1 : h1 q = some (.inr (1, [.ref q', .ref sl']))) (c2 : h1 sl' = some (.inl (xdA g 6, 2, .inr (.inr (.inr (.inr f')))))) (c3 : SHP g h1 q' P' x.2.2 xs ys) (c4 : h q = none) (c5 : h sl' = none) (c6 : h q' = none) (c7 : ∀ i, i < 6 → h (P' i) = none) (c8 : P' 6 = xca g 0 0 ∨ (h (P' 6) = none ∧ P' 6 ≠ sl')) (c9 : P' 7 = xca g 0 0 ∨ (h (P' 7) = none ∧ P' 7 ≠ sl')) (hl : xle h h1) (hD2 : DQ g h2 dq arr hd' ((rmH hs).map (fun y => y.1) ++ [q])) (hl2 : xle2 dq arr h1 h2) :
    ∃ ow', ST g h2 ow' cb dq arr hd' sb tb len tx x (rmH hs ++ [(q, q', x.2.2)]) ∧ KP ow m h ow' h2 := by
  obtain ⟨h1_, hdk, nd1, nd2, hD, hSB, ⟨o1, o2, o3, o4, o5⟩, hlen, hl120⟩ := hS
  have hdq := hD.1
  obtain ⟨-, -, -, -, fa, harr, -⟩ := id hD
  refine ⟨fun a => if h a = none then (if a = q ∨ a = sl' then some q else some q') else ow a, ?_, ?_, fun a ha => if_neg ha⟩
  · have hw : ∀ a, h a ≠ none → (if h a = none then (if a = q ∨ a = sl' then some q else some q') else ow a) = ow a := fun a ha => if_neg ha
    have KD : ∀ y ∈ x :: hs, ∀ a e, h a = some e → (ow a = some y.1 ∨ ow a = some y.2.1 ∨ ow a = none ∨ isSN e = true) → h2 a = some e := fun y hy a e ha hq => by
      obtain ⟨⟨sl, f, d1, d2, w1, w2, ⟨P, zs, zt, hP, -⟩, -⟩, -⟩ := hdk y hy
      have nA : dq ≠ y.1 := fun z => by rw [← z, hdq] at d1; cases d1
      have nB : dq ≠ y.2.1 := fun z => by have := hP.1; rw [← z, hdq] at this; cases this
      refine hl2 a e (fun z => ?_) (fun z => ?_) (hl a e ha)
      · subst z
        rw [hdq] at ha; cases ha
        rw [o2] at hq
        rcases hq with r | r | r | r
        · exact nA (Option.some.inj r)
        · exact nB (Option.some.inj r)
        · cases r
        · cases r
      · subst z
        rw [harr] at ha; cases ha
        rw [o3] at hq
        rcases hq with r | r | r | r
        · exact nA (Option.some.inj r)
        · exact nB (Option.some.inj r)
        · cases r
        · cases r
    have hnew : ∀ a e, h a = none → h1 a = some e → h2 a = some e := fun a e ha h1a => hl2 a e (fun z => by rw [z, hdq] at ha; cases ha) (fun z => by rw [z, harr] at ha; cases ha) h1a
    have hD0 := hdk x (by simp)
    have hold : ∀ y ∈ x :: hs, h y.1 ≠ none ∧ h y.2.1 ≠ none := fun y hy => by
      obtain ⟨⟨sl, f, d1, d2, w1, w2, ⟨P, zs, zt, hP, -⟩, -⟩, -⟩ := hdk y hy
      exact ⟨by rw [d1]; simp, by rw [hP.1]; simp⟩
    have hDn : DK g h2 (fun a => if h a = none then (if a = q ∨ a = sl' then some q else some q') else ow a) (q, q', x.2.2) := by
      obtain ⟨⟨sl, f, d1, d2, w1, w2, -, hT⟩, -⟩ := hD0
      have hff := hsl sl f d1 d2
      refine ⟨sl', f', hnew _ _ c4 c1, hnew _ _ c5 c2, by simp [c4], by simp [c5], ?_, fun j hj => ?_⟩
      · have hq'q : q' ≠ q := fun z => by have := c3.1; rw [z, c1] at this; cases this
        have hq's : q' ≠ sl' := fun z => by have := c3.1; rw [z, c2] at this; cases this
        have hSH : SH g h1 (fun a => h a = none ∧ a ≠ q ∧ a ≠ sl') q' x.2.2 := by
          refine ⟨P', xs, ys, c3, ⟨c6, hq'q, hq's⟩, fun i hi => ⟨c7 i hi, ?_⟩, ?_, ?_⟩
          · obtain ⟨-, ⟨f2, n2, -⟩, ⟨f3, n3, -⟩, ⟨f4, n4, -⟩, ⟨f5, n5, -⟩, ⟨⟨m3, a3, g3, A⟩, -⟩, ⟨⟨m4, a4, g4, B⟩, -⟩, -⟩ := c3
            have A1 := A.1
            have B1 := B.1
            rcases (by omega : i = 0 ∨ i = 1 ∨ i = 2 ∨ i = 3 ∨ i = 4 ∨ i = 5) with rfl | rfl | rfl | rfl | rfl | rfl
            · exact ⟨fun z => (by rw [z, c1] at n2; cases n2), fun z => (by rw [z, c2] at n2; simp at n2)⟩
            · exact ⟨fun z => (by rw [z, c1] at n3; cases n3), fun z => (by rw [z, c2] at n3; simp at n3)⟩
            · exact ⟨fun z => (by rw [z, c1] at n4; cases n4), fun z => (by rw [z, c2] at n4; simp at n4)⟩
            · exact ⟨fun z => (by rw [z, c1] at A1; cases A1), fun z => (by rw [z, c2] at A1; cases A1)⟩
            · exact ⟨fun z => (by rw [z, c1] at B1; cases B1), fun z => (by rw [z, c2] at B1; cases B1)⟩
            · exact ⟨fun z => (by rw [z, c1] at n5; cases n5), fun z => (by rw [z, c2] at n5; simp at n5)⟩
          · refine c8.imp id (fun z => ⟨z.1, fun w => ?_, z.2⟩)
            obtain ⟨-, -, -, -, -, ⟨⟨m3, a3, g3, A⟩, -⟩, -⟩ := c3
            rcases A.2.1 with y | ⟨y, -⟩
            · rw [w, c1] at y; cases y
            · rw [← w, y, hx1] at c1; cases c1
          · refine c9.imp id (fun z => ⟨z.1, fun w => ?_, z.2⟩)
            obtain ⟨-, -, -, -, -, -, ⟨⟨m3, a3, g3, A⟩, -⟩, -⟩ := c3
            rcases A.2.1 with y | ⟨y, -⟩
            · rw [w, c1] at y; cases y
            · rw [← w, y, hx1] at c1; cases c1
        refine hSH.kp hx1 (fun a e ha hq => ?_) (fun a ha _ => ?_)
        · rcases hq with r | r
          · exact hnew a e r.1 ha
          · refine hl2 a e (fun z => ?_) (fun z => ?_) ha
            · have := hl _ _ hdq; rw [← z, ha] at this; cases this; cases r
            · have := hl _ _ harr; rw [← z, ha] at this; cases this; cases r
        · show (if h a = none then (if a = q ∨ a = sl' then some q else some q') else ow a) = some q'
          rw [if_pos ha.1, if_neg (fun z => z.elim ha.2.1 ha.2.2)]
      · rw [hff j hj]
        exact (hT j hj).kp hx (fun a e ha r => KD x (by simp) a e ha (Or.inr (Or.inr r))) hw
    have hsub : ∀ y ∈ x :: rmH hs, y ∈ x :: hs := fun y hy => by
      rcases List.mem_cons.mp hy with r | r
      · exact List.mem_cons.mpr (Or.inl r)
      · exact List.mem_cons.mpr (Or.inr ((rmH_sub hs).subset r))
    refine ⟨hl2 _ _ (fun z => by rw [z, hdq] at h1_; cases h1_) (fun z => by rw [z, harr] at h1_; cases h1_) (hl _ _ h1_), fun y hy => ?_, ?_, ?_, by rw [List.map_append]; exact hD2, ?_, ⟨?_, ?_, ?_, ?_, ?_⟩, by have := rmH_len hlen; rw [List.length_append, List.length_singleton]; omega, hl120⟩
    · rcases List.mem_cons.mp hy with r | r
      · rw [r]; exact ⟨hD0.1.kp hx (KD x (by simp)) hw, hD0.2⟩
      · rcases List.mem_append.mp r with r | r
        · have := hsub y (List.mem_cons.mpr (Or.inr r))
          exact ⟨(hdk y this).1.kp hx (KD y this) hw, (hdk y this).2⟩
        · rw [List.mem_singleton] at r; subst r; exact ⟨hDn, hD0.2⟩
    · have hs1 : ((x :: rmH hs).map (fun y => y.1)).Nodup := nd1.sublist (((rmH_sub hs).cons₂ x).map _)
      rw [← List.cons_append, List.map_append, List.nodup_append]
      refine ⟨hs1, by simp, fun a ha b hb => ?_⟩
      obtain ⟨y, hy, rfl⟩ := List.mem_map.mp ha
      simp only [List.map_cons, List.map_nil, List.mem_singleton] at hb
      subst hb
      exact fun z => (hold y (hsub y hy)).1 (by rw [z]; exact c4)
    · have hs1 : ((x :: rmH hs).map (fun y => y.2.1)).Nodup := nd2.sublist (((rmH_sub hs).cons₂ x).map _)
      rw [← List.cons_append, List.map_append, List.nodup_append]
      refine ⟨hs1, by simp, fun a ha b hb => ?_⟩
      obtain ⟨y, hy, rfl⟩ := List.mem_map.mp ha
      simp only [List.map_cons, List.map_nil, List.mem_singleton] at hb
      subst hb
      exact fun z => (hold y (hsub y hy)).2 (by rw [z]; exact c6)
    · refine hSB.le2 (fun e he => hl2 _ _ (fun z => ?_) (fun z => ?_) (hl _ _ he)) (fun e he => hl2 _ _ (fun z => ?_) (fun z => ?_) (hl _ _ he))
      · obtain ⟨ml, cap, ff, -, s1, s2, -⟩ := hSB; rw [z, hdq] at s1; cases s1
      · obtain ⟨ml, cap, ff, -, s1, s2, -⟩ := hSB; rw [z, harr] at s1; cases s1
      · obtain ⟨ml, cap, ff, -, s1, s2, -⟩ := hSB; rw [z, hdq] at s2; cases s2
      · obtain ⟨ml, cap, ff, -, s1, s2, -⟩ := hSB; rw [z, harr] at s2; simp at s2
    · exact (hw _ (by rw [h1_]; simp)).trans o1
    · exact (hw _ (by rw [hdq]; simp)).trans o2
    · exact (hw _ (by rw [harr]; simp)).trans o3
    · exact (hw _ (by obtain ⟨ml, cap, ff, -, s1, s2, -⟩ := hSB; rw [s1]; simp)).trans o4
    · exact (hw _ (by obtain ⟨ml, cap, ff, -, s1, s2, -⟩ := hSB; rw [s2]; simp)).trans o5
  · intro a e ha hq
    refine hl2 a e (fun z => ?_) (fun z => ?_) (hl a e ha)
    · rw [z, o2] at hq; exact hm (Option.some.inj hq).symm
    · rw [z, o3] at hq; exact hm (Option.some.inj hq).symm
end PERFORM

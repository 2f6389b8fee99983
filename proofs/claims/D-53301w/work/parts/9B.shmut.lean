/-! a sheet is changed -/
section SHMUT
set_option maxRecDepth 100000
variable {g : xG} {l : Launch} {h h0 h' : xH}
theorem zN_c {s s' : Row} {k : Nat} (h : s' k = s k) : zN s' k = zN s k := by unfold zN; rw [h]
theorem sgE_c {s s' : Row} {k : Nat} (hk : k < 8) (hs : ∀ j, 13 ≤ j ∧ j < 37 → s' j = s j) : sgE s' k = sgE s k := by
  unfold sgE; rw [zN_c (hs (13 + 3 * k) (by omega)), zN_c (hs (14 + 3 * k) (by omega)), zN_c (hs (15 + 3 * k) (by omega))]
theorem ntE_c {s s' : Row} {k : Nat} (hk : k < 12) (hs : ∀ j, 38 ≤ j ∧ j < 86 → s' j = s j) : ntE s' k = ntE s k := by
  unfold ntE; rw [zN_c (hs (38 + 4 * k) (by omega)), zN_c (hs (39 + 4 * k) (by omega)), zN_c (hs (40 + 4 * k) (by omega)), zN_c (hs (41 + 4 * k) (by omega))]
theorem lE.keep {a arr n n' : Nat} {xs : List Nat} {E E' : Nat → va_E} (hL : lE g h a arr n xs E) (e1 : ∀ fs, h a = some (.inr (28, fs)) → h' a = some (.inr (28, fs))) (e2 : ∀ t m f, h arr = some (.inl (t, m, .inr (.inr (.inr (.inr f))))) → h' arr = some (.inl (t, m, .inr (.inr (.inr (.inr f)))))) (e3 : ∀ k, k < n → ∀ p, h p = some (E k) → h' p = some (E k)) (hn : n' = n) (hE : ∀ k, k < n → E' k = E k) : lE g h' a arr n' xs E' := by
  obtain ⟨⟨m, c, f, q⟩, h2, h3⟩ := hL
  subst hn
  exact ⟨⟨m, c, f, e1 _ q.1, q.2.1.imp (e2 _ _ _) id, q.2.2⟩, h2, fun k hk => by rw [hE k hk]; exact e3 k hk _ (h3 k hk)⟩
theorem kp {c a : Nat} {e0 e' e : va_E} (hc : h c = some e0) (hne : e ≠ e0) (ha : h a = some e) : xu h c e' a = some e :=
  (xu_n (fun z => hne (by rw [z, hc] at ha; exact (Option.some.inj ha).symm))).trans ha
theorem WF.n8 {s : Row} (hW : WF s) : zN s 12 ≤ 8 := hW.2.2.2.2.2.2.1.2
theorem WF.n12 {s : Row} (hW : WF s) : zN s 37 ≤ 12 := hW.2.2.2.2.2.2.2.2.1.2
theorem WF.nb {s : Row} (hW : WF s) : zN s 12 ≤ 8 ∧ zN s 37 ≤ 12 := ⟨hW.n8, hW.n12⟩
theorem shE_P {P P' : Nat → Nat} {s : Row} (h : ∀ i, i < 6 → P' i = P i) : shE P' s = shE P s := by unfold shE; rw [h 0 (by omega), h 1 (by omega), h 2 (by omega), h 3 (by omega), h 4 (by omega), h 5 (by omega)]
theorem SHP.sc {sh : Nat} {P : Nat → Nat} {s s' : Row} {xs ys : List Nat} (hS : SHP g h sh P s xs ys) (hb : zN s 12 ≤ 8 ∧ zN s 37 ≤ 12) (hs : ∀ k, (3 ≤ k ∧ k ≤ 6) ∨ (12 ≤ k ∧ k < 154) → s' k = s k) : SHP g (xu h sh (shE P s')) sh P s' xs ys := by
  obtain ⟨h1, ⟨f2, h2, v2⟩, ⟨f3, h3, v3⟩, ⟨f4, h4, v4⟩, ⟨f5, h5, v5⟩, hA, hB, h8⟩ := hS
  have n8 := hb.1
  have n12 := hb.2
  refine ⟨xu_s _ _ _, ⟨f2, kp h1 (by intro z; first | cases z | simp at z) h2, fun k hk => (v2 k hk).trans (hs _ (by omega)).symm⟩, ⟨f3, kp h1 (by intro z; first | cases z | simp at z) h3, fun k hk => (v3 k hk).trans (congrArg zNone (hs _ (by omega)).symm)⟩, ⟨f4, kp h1 (by intro z; first | cases z | simp at z) h4, fun k hk => (v4 k hk).trans (hs _ (by omega)).symm⟩, ⟨f5, kp h1 (by intro z; first | cases z | simp at z) h5, fun k hk => (v5 k hk).trans (hs _ (by omega)).symm⟩, hA.keep (fun fs q => kp h1 (by intro z; first | cases z | simp at z) q) (fun t m f q => kp h1 (by intro z; first | cases z | simp at z) q) (fun k hk p q => kp h1 (by intro z; first | cases z | simp at z) q) (zN_c (hs _ (by omega))) (fun k hk => sgE_c (by omega) (fun j hj => hs j (by omega))), hB.keep (fun fs q => kp h1 (by intro z; first | cases z | simp at z) q) (fun t m f q => kp h1 (by intro z; first | cases z | simp at z) q) (fun k hk p q => kp h1 (by intro z; first | cases z | simp at z) q) (zN_c (hs _ (by omega))) (fun k hk => ntE_c (by omega) (fun j hj => hs j (by omega))), h8⟩
theorem shE_c {P : Nat → Nat} {s s' : Row} (hs : ∀ k, k < 3 ∨ (7 ≤ k ∧ k < 12) → s' k = s k) : shE P s' = shE P s := by
  unfold shE zHi zWi zNf; rw [zN_c (hs 0 (by omega)), zN_c (hs 1 (by omega)), zN_c (hs 2 (by omega)), zN_c (hs 7 (by omega)), zN_c (hs 8 (by omega)), zN_c (hs 9 (by omega)), zN_c (hs 10 (by omega)), zN_c (hs 11 (by omega))]
/-- the efforts -/
theorem SHP.ef {sh : Nat} {P : Nat → Nat} {s s' : Row} {xs ys : List Nat} {f : Nat → Int32} (hS : SHP g h sh P s xs ys) (hb : zN s 12 ≤ 8 ∧ zN s 37 ≤ 12) (hf : ∀ k, k < 4 → f k = s' (86 + k)) (hs : ∀ k, k < 86 ∨ (90 ≤ k ∧ k < 154) → s' k = s k) : SHP g (xu h (P 5) (.inl (xdA g 0, 4, .inl f))) sh P s' xs ys := by
  obtain ⟨h1, ⟨f2, h2, v2⟩, ⟨f3, h3, v3⟩, ⟨f4, h4, v4⟩, ⟨f5, h5, v5⟩, hA, hB, h8⟩ := hS
  have n8 := hb.1
  have n12 := hb.2
  refine ⟨by rw [shE_c (fun k hk => hs k (by omega))]; exact kp h5 (by intro z; first | cases z | simp at z) h1, ⟨f2, (xu_n h8.1).trans h2, fun k hk => (v2 k hk).trans (hs _ (by omega)).symm⟩, ⟨f3, kp h5 (by intro z; first | cases z | simp at z) h3, fun k hk => (v3 k hk).trans (congrArg zNone (hs _ (by omega)).symm)⟩, ⟨f4, kp h5 (by intro z; first | cases z | simp at z) h4, fun k hk => (v4 k hk).trans (hs _ (by omega)).symm⟩, ⟨f, xu_s _ _ _, hf⟩, hA.keep (fun fs q => kp h5 (by intro z; first | cases z | simp at z) q) (fun t m f q => kp h5 (by intro z; first | cases z | simp at z) q) (fun k hk p q => kp h5 (by intro z; first | cases z | simp at z) q) (zN_c (hs _ (by omega))) (fun k hk => sgE_c (by omega) (fun j hj => hs j (by omega))), hB.keep (fun fs q => kp h5 (by intro z; first | cases z | simp at z) q) (fun t m f q => kp h5 (by intro z; first | cases z | simp at z) q) (fun k hk p q => kp h5 (by intro z; first | cases z | simp at z) q) (zN_c (hs _ (by omega))) (fun k hk => ntE_c (by omega) (fun j hj => hs j (by omega))), h8⟩
/-- the folds -/
theorem SHP.fo {sh : Nat} {P : Nat → Nat} {s s' : Row} {xs ys : List Nat} {f : Nat → Int32} (hS : SHP g h sh P s xs ys) (hb : zN s 12 ≤ 8 ∧ zN s 37 ≤ 12) (hf : ∀ k, k < 4 → f k = s' (3 + k)) (hs : ∀ k, k < 3 ∨ (7 ≤ k ∧ k < 154) → s' k = s k) : SHP g (xu h (P 0) (.inl (xdA g 0, 4, .inl f))) sh P s' xs ys := by
  obtain ⟨h1, ⟨f2, h2, v2⟩, ⟨f3, h3, v3⟩, ⟨f4, h4, v4⟩, ⟨f5, h5, v5⟩, hA, hB, h8⟩ := hS
  have n8 := hb.1
  have n12 := hb.2
  refine ⟨by rw [shE_c (fun k hk => hs k (by omega))]; exact kp h2 (by intro z; first | cases z | simp at z) h1, ⟨f, xu_s _ _ _, hf⟩, ⟨f3, kp h2 (by intro z; first | cases z | simp at z) h3, fun k hk => (v3 k hk).trans (congrArg zNone (hs _ (by omega)).symm)⟩, ⟨f4, kp h2 (by intro z; first | cases z | simp at z) h4, fun k hk => (v4 k hk).trans (hs _ (by omega)).symm⟩, ⟨f5, (xu_n h8.1.symm).trans h5, fun k hk => (v5 k hk).trans (hs _ (by omega)).symm⟩, hA.keep (fun fs q => kp h2 (by intro z; first | cases z | simp at z) q) (fun t m f q => kp h2 (by intro z; first | cases z | simp at z) q) (fun k hk p q => kp h2 (by intro z; first | cases z | simp at z) q) (zN_c (hs _ (by omega))) (fun k hk => sgE_c (by omega) (fun j hj => hs j (by omega))), hB.keep (fun fs q => kp h2 (by intro z; first | cases z | simp at z) q) (fun t m f q => kp h2 (by intro z; first | cases z | simp at z) q) (fun k hk p q => kp h2 (by intro z; first | cases z | simp at z) q) (zN_c (hs _ (by omega))) (fun k hk => ntE_c (by omega) (fun j hj => hs j (by omega))), h8⟩
/-- the numbers -/
theorem SHP.nu {sh : Nat} {P : Nat → Nat} {s s' : Row} {xs ys : List Nat} {f : Nat → Int32} (hS : SHP g h sh P s xs ys) (hb : zN s 12 ≤ 8 ∧ zN s 37 ≤ 12) (hf : ∀ k, k < 32 → f k = zNone (s' (90 + k))) (hs : ∀ k, k < 90 ∨ (122 ≤ k ∧ k < 154) → s' k = s k) : SHP g (xu h (P 1) (.inl (xdA g 0, 32, .inl f))) sh P s' xs ys := by
  obtain ⟨h1, ⟨f2, h2, v2⟩, ⟨f3, h3, v3⟩, ⟨f4, h4, v4⟩, ⟨f5, h5, v5⟩, hA, hB, h8⟩ := hS
  have n8 := hb.1
  have n12 := hb.2
  refine ⟨by rw [shE_c (fun k hk => hs k (by omega))]; exact kp h3 (by intro z; first | cases z | simp at z) h1, ⟨f2, kp h3 (by intro z; first | cases z | simp at z) h2, fun k hk => (v2 k hk).trans (hs _ (by omega)).symm⟩, ⟨f, xu_s _ _ _, hf⟩, ⟨f4, (xu_n h8.2.1.symm).trans h4, fun k hk => (v4 k hk).trans (hs _ (by omega)).symm⟩, ⟨f5, kp h3 (by intro z; first | cases z | simp at z) h5, fun k hk => (v5 k hk).trans (hs _ (by omega)).symm⟩, hA.keep (fun fs q => kp h3 (by intro z; first | cases z | simp at z) q) (fun t m f q => kp h3 (by intro z; first | cases z | simp at z) q) (fun k hk p q => kp h3 (by intro z; first | cases z | simp at z) q) (zN_c (hs _ (by omega))) (fun k hk => sgE_c (by omega) (fun j hj => hs j (by omega))), hB.keep (fun fs q => kp h3 (by intro z; first | cases z | simp at z) q) (fun t m f q => kp h3 (by intro z; first | cases z | simp at z) q) (fun k hk p q => kp h3 (by intro z; first | cases z | simp at z) q) (zN_c (hs _ (by omega))) (fun k hk => ntE_c (by omega) (fun j hj => hs j (by omega))), h8⟩
/-- turned -/
theorem SHP.tu {sh : Nat} {P : Nat → Nat} {s s' : Row} {xs ys : List Nat} {f : Nat → Int32} (hS : SHP g h sh P s xs ys) (hb : zN s 12 ≤ 8 ∧ zN s 37 ≤ 12) (hf : ∀ k, k < 32 → f k = s' (122 + k)) (hs : ∀ k, k < 122 → s' k = s k) : SHP g (xu h (P 2) (.inl (xdA g 1, 32, .inl f))) sh P s' xs ys := by
  obtain ⟨h1, ⟨f2, h2, v2⟩, ⟨f3, h3, v3⟩, ⟨f4, h4, v4⟩, ⟨f5, h5, v5⟩, hA, hB, h8⟩ := hS
  have n8 := hb.1
  have n12 := hb.2
  refine ⟨by rw [shE_c (fun k hk => hs k (by omega))]; exact kp h4 (by intro z; first | cases z | simp at z) h1, ⟨f2, kp h4 (by intro z; first | cases z | simp at z) h2, fun k hk => (v2 k hk).trans (hs _ (by omega)).symm⟩, ⟨f3, (xu_n h8.2.1).trans h3, fun k hk => (v3 k hk).trans (congrArg zNone (hs _ (by omega)).symm)⟩, ⟨f, xu_s _ _ _, hf⟩, ⟨f5, kp h4 (by intro z; first | cases z | simp at z) h5, fun k hk => (v5 k hk).trans (hs _ (by omega)).symm⟩, hA.keep (fun fs q => kp h4 (by intro z; first | cases z | simp at z) q) (fun t m f q => kp h4 (by intro z; first | cases z | simp at z) q) (fun k hk p q => kp h4 (by intro z; first | cases z | simp at z) q) (zN_c (hs _ (by omega))) (fun k hk => sgE_c (by omega) (fun j hj => hs j (by omega))), hB.keep (fun fs q => kp h4 (by intro z; first | cases z | simp at z) q) (fun t m f q => kp h4 (by intro z; first | cases z | simp at z) q) (fun k hk p q => kp h4 (by intro z; first | cases z | simp at z) q) (zN_c (hs _ (by omega))) (fun k hk => ntE_c (by omega) (fun j hj => hs j (by omega))), h8⟩
theorem upd_self {f : Nat → Int32} {k : Nat} {x : Int32} : upd f k x k = x := by simp [upd]
/-- a cell of a list, or its array: every other one stays -/
theorem AL.ne {a arr p : Nat} {xs : List Nat} {e : va_E} (hA : AL g h a arr xs) (hx : h (xca g 0 0) = none) (hp : h p = some e) (n1 : ∀ fs, e ≠ .inr (28, fs)) (n2 : ∀ t m f, e ≠ .inl (t, m, .inr (.inr (.inr (.inr f))))) : p ≠ a ∧ p ≠ arr := by
  obtain ⟨m, c, f, q⟩ := hA
  refine ⟨fun z => ?_, fun z => ?_⟩
  · rw [z, q.1] at hp; exact n1 _ (Option.some.inj hp).symm
  · rcases q.2.1 with y | ⟨y, -⟩
    · rw [z, y] at hp; exact n2 _ _ _ (Option.some.inj hp).symm
    · rw [z, y, hx] at hp; cases hp
/-- the sights -/
theorem SHP.si {sh : Nat} {P : Nat → Nat} {s s' : Row} {xs xs' ys : List Nat} {ar : Nat} (hS : SHP g h sh P s xs ys) (hb : zN s 12 ≤ 8 ∧ zN s 37 ≤ 12) (hx : h (xca g 0 0) = none) (hle : xle2 (P 3) (P 6) h h') (hL : lE g h' (P 3) ar (zN s' 12) xs' (sgE s')) (har : ar = P 6 ∨ h ar = none) (hs : ∀ k, k < 12 ∨ (37 ≤ k ∧ k < 154) → s' k = s k) : SHP g h' sh (va_up P 6 ar) s' xs' ys := by
  obtain ⟨h1, ⟨f2, h2, v2⟩, ⟨f3, h3, v3⟩, ⟨f4, h4, v4⟩, ⟨f5, h5, v5⟩, hA, hB, h8⟩ := hS
  have n12 := hb.2
  have K : ∀ p e, h p = some e → (∀ fs, e ≠ .inr (28, fs)) → (∀ t m f, e ≠ .inl (t, m, .inr (.inr (.inr (.inr f))))) → h' p = some e := fun p e hp q1 q2 => by
    obtain ⟨z1, z2⟩ := hA.1.ne hx hp q1 q2; exact hle _ _ z1 z2 hp
  refine ⟨by rw [shE_P (fun i hi => va_up_n _ _ (by omega)), shE_c (fun k hk => hs k (by omega))]; exact K _ _ h1 (by intro _ z; first | cases z | simp at z) (by intro _ _ _ z; first | cases z | simp at z), ⟨f2, K _ _ h2 (by intro _ z; first | cases z | simp at z) (by intro _ _ _ z; first | cases z | simp at z), fun k hk => (v2 k hk).trans (hs _ (by omega)).symm⟩, ⟨f3, K _ _ h3 (by intro _ z; first | cases z | simp at z) (by intro _ _ _ z; first | cases z | simp at z), fun k hk => (v3 k hk).trans (congrArg zNone (hs _ (by omega)).symm)⟩, ⟨f4, K _ _ h4 (by intro _ z; first | cases z | simp at z) (by intro _ _ _ z; first | cases z | simp at z), fun k hk => (v4 k hk).trans (hs _ (by omega)).symm⟩, ⟨f5, K _ _ h5 (by intro _ z; first | cases z | simp at z) (by intro _ _ _ z; first | cases z | simp at z), fun k hk => (v5 k hk).trans (hs _ (by omega)).symm⟩, ?_, hB.keep (fun fs q => ?_) (fun t m f q => ?_) (fun k hk p q => K _ _ q (by intro _ z; first | cases z | simp at z) (by intro _ _ _ z; first | cases z | simp at z)) (zN_c (hs _ (by omega))) (fun k hk => ntE_c (by omega) (fun j hj => hs j (by omega))), h8.1, h8.2.1, h8.2.2.1, fun z => ?_⟩
  · rw [va_up_s]; exact hL
  · refine hle _ _ h8.2.2.1.symm (fun z => ?_) q
    obtain ⟨⟨m, c, f, y⟩, -⟩ := hA
    rcases y.2.1 with w | ⟨w, -⟩
    · rw [← z] at w; rw [w] at q; cases q
    · rw [z, w, hx] at q; cases q
  · refine hle _ _ (fun z => ?_) (fun z => ?_) q
    · obtain ⟨⟨m, c, f, y⟩, -⟩ := hA
      have := y.1; rw [← z, q] at this; cases this
    · have := h8.2.2.2 z.symm; rw [← z] at this; rw [this, hx] at q; cases q
  · simp only [va_up_s, va_up_n P ar (show (7 : Nat) ≠ 6 by omega)] at z ⊢
    rcases har with rfl | w
    · exact h8.2.2.2 z
    · obtain ⟨⟨m, c, f, y⟩, -⟩ := hB
      rcases y.2.1 with r | ⟨r, -⟩
      · rw [← z, w] at r; cases r
      · rw [z]; exact r
/-- the notes -/
theorem SHP.no {sh : Nat} {P : Nat → Nat} {s s' : Row} {xs ys ys' : List Nat} {ar : Nat} (hS : SHP g h sh P s xs ys) (hb : zN s 12 ≤ 8 ∧ zN s 37 ≤ 12) (hx : h (xca g 0 0) = none) (hle : xle2 (P 4) (P 7) h h') (hL : lE g h' (P 4) ar (zN s' 37) ys' (ntE s')) (har : ar = P 7 ∨ h ar = none) (hs : ∀ k, k < 37 ∨ (86 ≤ k ∧ k < 154) → s' k = s k) : SHP g h' sh (va_up P 7 ar) s' xs ys' := by
  obtain ⟨h1, ⟨f2, h2, v2⟩, ⟨f3, h3, v3⟩, ⟨f4, h4, v4⟩, ⟨f5, h5, v5⟩, hA, hB, h8⟩ := hS
  have n8 := hb.1
  have K : ∀ p e, h p = some e → (∀ fs, e ≠ .inr (28, fs)) → (∀ t m f, e ≠ .inl (t, m, .inr (.inr (.inr (.inr f))))) → h' p = some e := fun p e hp q1 q2 => by
    obtain ⟨z1, z2⟩ := hB.1.ne hx hp q1 q2; exact hle _ _ z1 z2 hp
  refine ⟨by rw [shE_P (fun i hi => va_up_n _ _ (by omega)), shE_c (fun k hk => hs k (by omega))]; exact K _ _ h1 (by intro _ z; first | cases z | simp at z) (by intro _ _ _ z; first | cases z | simp at z), ⟨f2, K _ _ h2 (by intro _ z; first | cases z | simp at z) (by intro _ _ _ z; first | cases z | simp at z), fun k hk => (v2 k hk).trans (hs _ (by omega)).symm⟩, ⟨f3, K _ _ h3 (by intro _ z; first | cases z | simp at z) (by intro _ _ _ z; first | cases z | simp at z), fun k hk => (v3 k hk).trans (congrArg zNone (hs _ (by omega)).symm)⟩, ⟨f4, K _ _ h4 (by intro _ z; first | cases z | simp at z) (by intro _ _ _ z; first | cases z | simp at z), fun k hk => (v4 k hk).trans (hs _ (by omega)).symm⟩, ⟨f5, K _ _ h5 (by intro _ z; first | cases z | simp at z) (by intro _ _ _ z; first | cases z | simp at z), fun k hk => (v5 k hk).trans (hs _ (by omega)).symm⟩, hA.keep (fun fs q => ?_) (fun t m f q => ?_) (fun k hk p q => K _ _ q (by intro _ z; first | cases z | simp at z) (by intro _ _ _ z; first | cases z | simp at z)) (zN_c (hs _ (by omega))) (fun k hk => sgE_c (by omega) (fun j hj => hs j (by omega))), ?_, h8.1, h8.2.1, h8.2.2.1, fun z => ?_⟩
  · refine hle _ _ h8.2.2.1 (fun z => ?_) q
    obtain ⟨⟨m, c, f, y⟩, -⟩ := hB
    rcases y.2.1 with w | ⟨w, -⟩
    · rw [← z] at w; rw [w] at q; cases q
    · rw [z, w, hx] at q; cases q
  · refine hle _ _ (fun z => ?_) (fun z => ?_) q
    · obtain ⟨⟨m, c, f, y⟩, -⟩ := hB
      have := y.1; rw [← z, q] at this; cases this
    · have := h8.2.2.2 z; rw [this, hx] at q; cases q
  · rw [va_up_s]; exact hL
  · simp only [va_up_s, va_up_n P ar (show (6 : Nat) ≠ 7 by omega)] at z ⊢
    rcases har with rfl | w
    · exact h8.2.2.2 z
    · obtain ⟨⟨m, c, f, y⟩, -⟩ := hA
      rcases y.2.1 with r | ⟨r, -⟩
      · rw [z, w] at r; cases r
      · exact r
end SHMUT

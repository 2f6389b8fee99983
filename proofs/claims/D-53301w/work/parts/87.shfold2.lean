/-! Sheet.folding -/
section SHFOLD2
set_option maxRecDepth 100000
variable {g : xG} {l : Launch} {h h0 : xH}
theorem FDN.le {h00 h : xH} {fo hi wi n : Nat} {F : Nat → Nat} (hF : FDN g h00 h fo hi wi F n) : xle h00 h := by
  obtain ⟨PL, pl, La, f1, f2, f3, f4, f5, f6, f7, f8⟩ := hF; exact f8
theorem FDN.is {h00 h : xH} {fo hi wi n : Nat} {F : Nat → Nat} (hF : FDN g h00 h fo hi wi F n) : xIs g h fo "CribBooklet$Folding" := by
  obtain ⟨PL, pl, La, f1, f2, f3, f4, f5, f6, f7, f8⟩ := hF; exact xIs.of kcX5 f1
theorem j_shfL (h : xH) (sh fa fo hi wi nf d : Nat) (hd : 5 ≤ d) (F : Nat → Nat) (fc : Nat → Int32) (vs : List Value) (hvs : vs.length = 10) (hok : p_ok hi wi 1 = true) (hcs : p_cans hi wi F nf = true) (hsh : h sh = some (.inr (2, .int (nI hi) :: .int (nI wi) :: .ref fa :: .int (nI nf) :: vs))) (hfa : h fa = some (.inl (xdA g 0, 4, .inl fc))) (hfc : ∀ k, k < nf → fc k = nI (F k)) (Q : xO → xH → Prop) (hE : ∀ h', FDN g h h' fo hi wi F nf → Q (.inl (some (.ref fo))) h') : ∀ n k, nf - k ≤ n → k ≤ nf → ∀ h1, FDN g h h1 fo hi wi F k → X g l mX2_folding d 70 195 Q 18 [some (.ref sh), some (.ref fo), some (.int (nI k))] [] h1 (34 + 9 * k) (99 + 24 * k) := by
  have hn4 := p_cans_le hok hcs
  intro n
  induction n with
  | zero =>
    intro k hk hkn h1 hF
    have : k = nf := by omega
    subst this
    have hsh1 := hF.le _ _ hsh
    refine x_iload_n (M := mX2_folding) (pc := 18) dX2_folding_18 rfl ?_
    refine x_aload_n (M := mX2_folding) (pc := 19) dX2_folding_19 rfl ?_
    refine x_get (M := mX2_folding) (pc := 20) kcX2 3 rfl q224 dX2_folding_20 (by first | assumption | exact xu_s _ _ _ | exact (xu_n (by first | assumption | exact Ne.symm (by assumption) | exact xu_fresh (by assumption) (by assumption) | exact (xu_fresh (by assumption) (by assumption)).symm)).trans (by first | assumption | exact xu_s _ _ _ | exact (xu_n (by first | assumption | exact Ne.symm (by assumption) | exact xu_fresh (by assumption) (by assumption) | exact (xu_fresh (by assumption) (by assumption)).symm)).trans (by first | assumption | exact xu_s _ _ _ | exact (xu_n (by first | assumption | exact Ne.symm (by assumption) | exact xu_fresh (by assumption) (by assumption) | exact (xu_fresh (by assumption) (by assumption)).symm)).trans (by first | assumption | exact xu_s _ _ _)))) rfl ?_
    refine x_icmp_geN (M := mX2_folding) (pc := 23) 42 dX2_folding_23 (by decide) (by omega) (by omega) (fun z => ?_) (fun z => absurd z (by omega))
    refine x_aload_n (M := mX2_folding) (pc := 42) dX2_folding_42 rfl ?_
    refine x_aret (M := mX2_folding) (pc := 43) dX2_folding_43 rfl (by first | exact Or.inl ⟨_, rfl⟩ | exact Or.inr ⟨_, rfl⟩) (by first | exact Nat.le_of_ble_eq_true rfl | omega) (by first | exact Nat.le_of_ble_eq_true rfl | omega) ?_
    exact hE h1 hF
  | succ n ih =>
    intro k hk hkn h1 hF
    have hsh1 := hF.le _ _ hsh
    have hfa1 := hF.le _ _ hfa
    refine x_iload_n (M := mX2_folding) (pc := 18) dX2_folding_18 rfl ?_
    refine x_aload_n (M := mX2_folding) (pc := 19) dX2_folding_19 rfl ?_
    refine x_get (M := mX2_folding) (pc := 20) kcX2 3 rfl q224 dX2_folding_20 (by first | assumption | exact xu_s _ _ _ | exact (xu_n (by first | assumption | exact Ne.symm (by assumption) | exact xu_fresh (by assumption) (by assumption) | exact (xu_fresh (by assumption) (by assumption)).symm)).trans (by first | assumption | exact xu_s _ _ _ | exact (xu_n (by first | assumption | exact Ne.symm (by assumption) | exact xu_fresh (by assumption) (by assumption) | exact (xu_fresh (by assumption) (by assumption)).symm)).trans (by first | assumption | exact xu_s _ _ _ | exact (xu_n (by first | assumption | exact Ne.symm (by assumption) | exact xu_fresh (by assumption) (by assumption) | exact (xu_fresh (by assumption) (by assumption)).symm)).trans (by first | assumption | exact xu_s _ _ _)))) rfl ?_
    refine x_icmp_geN (M := mX2_folding) (pc := 23) 42 dX2_folding_23 (by decide) (by omega) (by omega) (fun z => ?_) (fun z => ?_)
    · have : k = nf := by omega
      subst this
      refine x_aload_n (M := mX2_folding) (pc := 42) dX2_folding_42 rfl ?_
      refine x_aret (M := mX2_folding) (pc := 43) dX2_folding_43 rfl (by first | exact Or.inl ⟨_, rfl⟩ | exact Or.inr ⟨_, rfl⟩) (by first | exact Nat.le_of_ble_eq_true rfl | omega) (by first | exact Nat.le_of_ble_eq_true rfl | omega) ?_
      exact hE h1 hF
    · refine x_aload_n (M := mX2_folding) (pc := 26) dX2_folding_26 rfl ?_
      refine x_aload_n (M := mX2_folding) (pc := 27) dX2_folding_27 rfl ?_
      refine x_get (M := mX2_folding) (pc := 28) kcX2 2 rfl q218 dX2_folding_28 (by first | assumption | exact xu_s _ _ _ | exact (xu_n (by first | assumption | exact Ne.symm (by assumption) | exact xu_fresh (by assumption) (by assumption) | exact (xu_fresh (by assumption) (by assumption)).symm)).trans (by first | assumption | exact xu_s _ _ _ | exact (xu_n (by first | assumption | exact Ne.symm (by assumption) | exact xu_fresh (by assumption) (by assumption) | exact (xu_fresh (by assumption) (by assumption)).symm)).trans (by first | assumption | exact xu_s _ _ _ | exact (xu_n (by first | assumption | exact Ne.symm (by assumption) | exact xu_fresh (by assumption) (by assumption) | exact (xu_fresh (by assumption) (by assumption)).symm)).trans (by first | assumption | exact xu_s _ _ _)))) rfl ?_
      refine x_iload_n (M := mX2_folding) (pc := 31) dX2_folding_31 rfl ?_
      refine x_ialdN (M := mX2_folding) (pc := 32) k dX2_folding_32 hfa1 rfl (by omega) (by omega) ?_
      rw [hfc k z]
      obtain ⟨mc', ms', q1, q2, q3⟩ := cc_foldN (l := l) h h1 fo hi wi k (d - 1) F (by omega) hok (p_cans_mono (by omega) hcs) hF
      refine x_V1 (M := mX2_folding) (pc := 33) (M' := mX5_fold) q505 kVX5_fold dX2_folding_33 (q3) (hF.is) (fun v_ h hq_ => ?_)
      obtain ⟨hv_, hF2⟩ := hq_; cases hv_
      skip
      first | refine x_iinc2N (M := mX2_folding) (pc := 36) (c := 1) dX2_folding_36 oI1 ?_ | refine x_iinc2 (M := mX2_folding) (pc := 36) (c := 1) dX2_folding_36 (by decide) ?_
      refine x_goto (M := mX2_folding) (pc := 39) 18 dX2_folding_39 (by decide) ?_
      exact x_use (by omega) (by omega) (ih (k + 1) (by omega) (by omega) _ hF2)
theorem c_folding (h : xH) (sh fa hi wi nf d : Nat) (hd : 5 ≤ d) (F : Nat → Nat) (fc : Nat → Int32) (vs : List Value) (hvs : vs.length = 10) (hok : p_ok hi wi 1 = true) (hcs : p_cans hi wi F nf = true) (hsh : h sh = some (.inr (2, .int (nI hi) :: .int (nI wi) :: .ref fa :: .int (nI nf) :: vs))) (hfa : h fa = some (.inl (xdA g 0, 4, .inl fc))) (hfc : ∀ k, k < nf → fc k = nI (F k)) : Ct g l mX2_folding d 70 195 [.ref sh] h (fun o h' => ∃ fo, o = .inl (some (.ref fo)) ∧ FDN g h h' fo hi wi F nf) := by
  obtain ⟨b1, b2, -, b4, b5, -, b7⟩ := p_ok_b hok
  refine Ct.of [some (.ref sh), none, none] (by decide +kernel) rfl (Nat.le_of_ble_eq_true rfl) rfl rfl ?_
  refine x_new (M := mX2_folding) (pc := 0) kcX5 q460 dX2_folding_0 (by first | exact Nat.le_of_ble_eq_true rfl | omega) (by first | exact Nat.le_of_ble_eq_true rfl | omega) (fun q0_ hq0_ hb0_ => ?_)
  (try simp only [xu_noneI] at hq0_)
  repeat (obtain ⟨_, hq0_⟩ : _ ∧ _ := hq0_)
  refine x_dup (M := mX2_folding) (pc := 3) dX2_folding_3 ?_
  have hne : sh ≠ q0_ := fun e => by rw [← e, hsh] at hq0_; cases hq0_
  refine x_aload_n (M := mX2_folding) (pc := 4) dX2_folding_4 rfl ?_
  refine x_get (M := mX2_folding) (pc := 5) kcX2 0 rfl q210 dX2_folding_5 (by first | assumption | exact xu_s _ _ _ | exact (xu_n (by first | assumption | exact Ne.symm (by assumption) | exact xu_fresh (by assumption) (by assumption) | exact (xu_fresh (by assumption) (by assumption)).symm)).trans (by first | assumption | exact xu_s _ _ _ | exact (xu_n (by first | assumption | exact Ne.symm (by assumption) | exact xu_fresh (by assumption) (by assumption) | exact (xu_fresh (by assumption) (by assumption)).symm)).trans (by first | assumption | exact xu_s _ _ _ | exact (xu_n (by first | assumption | exact Ne.symm (by assumption) | exact xu_fresh (by assumption) (by assumption) | exact (xu_fresh (by assumption) (by assumption)).symm)).trans (by first | assumption | exact xu_s _ _ _)))) rfl ?_
  refine x_aload_n (M := mX2_folding) (pc := 8) dX2_folding_8 rfl ?_
  refine x_get (M := mX2_folding) (pc := 9) kcX2 1 rfl q214 dX2_folding_9 (by first | assumption | exact xu_s _ _ _ | exact (xu_n (by first | assumption | exact Ne.symm (by assumption) | exact xu_fresh (by assumption) (by assumption) | exact (xu_fresh (by assumption) (by assumption)).symm)).trans (by first | assumption | exact xu_s _ _ _ | exact (xu_n (by first | assumption | exact Ne.symm (by assumption) | exact xu_fresh (by assumption) (by assumption) | exact (xu_fresh (by assumption) (by assumption)).symm)).trans (by first | assumption | exact xu_s _ _ _ | exact (xu_n (by first | assumption | exact Ne.symm (by assumption) | exact xu_fresh (by assumption) (by assumption) | exact (xu_fresh (by assumption) (by assumption)).symm)).trans (by first | assumption | exact xu_s _ _ _)))) rfl ?_
  refine x_I2 (M := mX2_folding) (pc := 12) (M' := mX5_init) q462 kIX5_init dX2_folding_12 (c_fdInit h _ q0_ hi wi (hi * wi) (d - 1) (by omega) rfl (by omega) (by omega) (by omega) _ _ _ (xu_s _ _ _) hq0_ (xle.fr hq0_)) (fun v_ h hq_ => ?_)
  obtain ⟨hv_, hF2⟩ := hq_; cases hv_
  refine x_astore1 (M := mX2_folding) (pc := 15) dX2_folding_15 ?_
  refine x_iconst (M := mX2_folding) (pc := 16) (v := nI 0) dX2_folding_16 (by decide) ?_
  refine x_istore2 (M := mX2_folding) (pc := 17) dX2_folding_17 ?_
  skip
  refine x_use (uc' := 34 + 9 * 0) (us' := 99 + 24 * 0) (by omega) (by omega) (j_shfL _ sh fa q0_ hi wi nf d hd F fc vs hvs hok hcs hsh hfa hfc _ (fun h' hF => ⟨q0_, rfl, hF⟩) nf 0 (by omega) (by omega) _ hF2)
end SHFOLD2

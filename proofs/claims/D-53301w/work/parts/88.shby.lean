/-! Sheet.foldedBy -/
section SHBY
set_option maxRecDepth 100000
variable {g : xG} {l : Launch} {h h0 : xH}
theorem len_j {n j : Nat} (hn : n ≤ 9999) (hj : j ≤ 3) : 10 ^ j ≤ n / 10 ↔ j + 1 < p_len n := by
  unfold p_len
  rcases (by omega : j = 0 ∨ j = 1 ∨ j = 2 ∨ j = 3) with rfl | rfl | rfl | rfl <;> simp only [Nat.reducePow] <;> (repeat' split) <;> omega
def fbU (n i : Nat) : Nat := if i < p_len n then 10 ^ (p_len n - 1 - i) else 0
theorem fbU_s {n i : Nat} (hi : i < p_len n) : fbU n i / 10 = fbU n (i + 1) := by
  have h4 := p_len_le n
  unfold fbU
  rw [if_pos hi]
  by_cases q : i + 1 < p_len n
  · rw [if_pos q, show p_len n - 1 - i = (p_len n - 1 - (i + 1)) + 1 by omega, Nat.pow_succ, Nat.mul_div_cancel _ (by omega)]
  · rw [if_neg q, show p_len n - 1 - i = 0 by omega]
theorem fbU_le (n i : Nat) : fbU n i ≤ 1000 := by
  have h4 := p_len_le n
  unfold fbU; split
  · have : 10 ^ (p_len n - 1 - i) ≤ 10 ^ 3 := Nat.pow_le_pow_right (by omega) (by omega)
    omega
  · omega
theorem fbU_pos {n i : Nat} (hi : i < p_len n) : 0 < fbU n i := by
  unfold fbU; rw [if_pos hi]; exact Nat.pow_pos (by omega)
theorem len0 {n : Nat} : p_len n = 0 ↔ n = 0 := by
  unfold p_len; (repeat' split) <;> omega
theorem j_fb2 (h : xH) (sh fo hi wi n d : Nat) (hd : 5 ≤ d) (hn : n ≤ 9999) (hok : p_ok hi wi 1 = true) (hcs : p_cans hi wi (p_dig n) (p_len n) = true) (Q : xO → xH → Prop) (hE : ∀ h', FDN g h h' fo hi wi (p_dig n) (p_len n) → Q (.inl (some (.ref fo))) h') : ∀ m i, p_len n - i ≤ m → i ≤ p_len n → (n = 0 ∨ True) → ∀ h1 u, (u = fbU n i ∨ n = 0) → u ≤ 1000 → FDN g h h1 fo hi wi (p_dig n) i → X g l mX2_foldedBy d 70 195 Q 37 [some (.ref sh), some (.int (nI n)), some (.ref fo), some (.int (nI u)), some (.int (nI n))] [] h1 (34 + 9 * i) (99 + 24 * i) := by
  have h4 := p_len_le n
  have hl0 := len0 (n := n)
  intro m
  induction m with
  | zero =>
    intro i hm hil _ h1 u hu hu1 hF
    have : i = p_len n := by omega
    subst this
    refine x_iload (M := mX2_foldedBy) (pc := 37) dX2_foldedBy_37 rfl ?_
    refine x_if_leN (M := mX2_foldedBy) (pc := 39) 65 dX2_foldedBy_39 (by decide) (by omega) (fun z => ?_) (fun z => ?_)
    · refine x_aload_n (M := mX2_foldedBy) (pc := 65) dX2_foldedBy_65 rfl ?_
      refine x_aret (M := mX2_foldedBy) (pc := 66) dX2_foldedBy_66 rfl (by first | exact Or.inl ⟨_, rfl⟩ | exact Or.inr ⟨_, rfl⟩) (by first | exact Nat.le_of_ble_eq_true rfl | omega) (by first | exact Nat.le_of_ble_eq_true rfl | omega) ?_
      exact hE h1 hF
    · refine x_iload_n (M := mX2_foldedBy) (pc := 42) dX2_foldedBy_42 rfl ?_
      have hu0 : u = 0 := by
        rcases hu with e | e
        · rw [e]; unfold fbU; rw [if_neg (by omega)]
        · omega
      refine x_if_leN (M := mX2_foldedBy) (pc := 43) 65 dX2_foldedBy_43 (by decide) (by omega) (fun z => ?_) (fun z => absurd z (by omega))
      refine x_aload_n (M := mX2_foldedBy) (pc := 65) dX2_foldedBy_65 rfl ?_
      refine x_aret (M := mX2_foldedBy) (pc := 66) dX2_foldedBy_66 rfl (by first | exact Or.inl ⟨_, rfl⟩ | exact Or.inr ⟨_, rfl⟩) (by first | exact Nat.le_of_ble_eq_true rfl | omega) (by first | exact Nat.le_of_ble_eq_true rfl | omega) ?_
      exact hE h1 hF
  | succ m ih =>
    intro i hm hil _ h1 u hu hu1 hF
    refine x_iload (M := mX2_foldedBy) (pc := 37) dX2_foldedBy_37 rfl ?_
    refine x_if_leN (M := mX2_foldedBy) (pc := 39) 65 dX2_foldedBy_39 (by decide) (by omega) (fun z => ?_) (fun z => ?_)
    · have : i = p_len n := by omega
      subst this
      refine x_aload_n (M := mX2_foldedBy) (pc := 65) dX2_foldedBy_65 rfl ?_
      refine x_aret (M := mX2_foldedBy) (pc := 66) dX2_foldedBy_66 rfl (by first | exact Or.inl ⟨_, rfl⟩ | exact Or.inr ⟨_, rfl⟩) (by first | exact Nat.le_of_ble_eq_true rfl | omega) (by first | exact Nat.le_of_ble_eq_true rfl | omega) ?_
      exact hE h1 hF
    · have hu' : u = fbU n i := hu.resolve_right (by omega)
      refine x_iload_n (M := mX2_foldedBy) (pc := 42) dX2_foldedBy_42 rfl ?_
      refine x_if_leN (M := mX2_foldedBy) (pc := 43) 65 dX2_foldedBy_43 (by decide) (by omega) (fun z2 => ?_) (fun z2 => ?_)
      · have : i = p_len n := by
          rcases Nat.lt_or_ge i (p_len n) with q | q
          · have := fbU_pos q; omega
          · omega
        subst this
        refine x_aload_n (M := mX2_foldedBy) (pc := 65) dX2_foldedBy_65 rfl ?_
        refine x_aret (M := mX2_foldedBy) (pc := 66) dX2_foldedBy_66 rfl (by first | exact Or.inl ⟨_, rfl⟩ | exact Or.inr ⟨_, rfl⟩) (by first | exact Nat.le_of_ble_eq_true rfl | omega) (by first | exact Nat.le_of_ble_eq_true rfl | omega) ?_
        exact hE h1 hF
      · have hil' : i < p_len n := by
          rcases Nat.lt_or_ge i (p_len n) with q | q
          · exact q
          · unfold fbU at hu'; rw [if_neg (by omega)] at hu'; omega
        have hdig : n / u % 10 = p_dig n i := by rw [hu']; unfold fbU p_dig; rw [if_pos hil']
        have hnu : n / u ≤ 9999 := Nat.le_trans (Nat.div_le_self _ _) hn
        refine x_aload_n (M := mX2_foldedBy) (pc := 46) dX2_foldedBy_46 rfl ?_
        refine x_iload (M := mX2_foldedBy) (pc := 47) dX2_foldedBy_47 rfl ?_
        refine x_iload_n (M := mX2_foldedBy) (pc := 49) dX2_foldedBy_49 rfl ?_
        first | with_reducible refine x_idivN (M := mX2_foldedBy) (pc := 50) dX2_foldedBy_50 (by omega) (by omega) (by omega) ?_ | refine x_idiv (M := mX2_foldedBy) (pc := 50) dX2_foldedBy_50 (by first | decide | assumption) ?_
        refine x_bipush (M := mX2_foldedBy) (pc := 51) (v := nI 10) dX2_foldedBy_51 (by decide) ?_
        first | with_reducible refine x_iremN (M := mX2_foldedBy) (pc := 53) dX2_foldedBy_53 (by omega) (by omega) (by omega) ?_ | refine x_irem (M := mX2_foldedBy) (pc := 53) dX2_foldedBy_53 (by first | decide | assumption) ?_
        rw [hdig]
        obtain ⟨mc', ms', q1, q2, q3⟩ := cc_foldN (l := l) h h1 fo hi wi i (d - 1) (p_dig n) (by omega) hok (p_cans_mono (by omega) hcs) hF
        refine x_V1 (M := mX2_foldedBy) (pc := 54) (M' := mX5_fold) q505 kVX5_fold dX2_foldedBy_54 (q3) (hF.is) (fun v_ h hq_ => ?_)
        obtain ⟨hv_, hF2⟩ := hq_; cases hv_
        skip
        refine x_iload_n (M := mX2_foldedBy) (pc := 57) dX2_foldedBy_57 rfl ?_
        refine x_bipush (M := mX2_foldedBy) (pc := 58) (v := nI 10) dX2_foldedBy_58 (by decide) ?_
        first | with_reducible refine x_idivN (M := mX2_foldedBy) (pc := 60) dX2_foldedBy_60 (by omega) (by omega) (by omega) ?_ | refine x_idiv (M := mX2_foldedBy) (pc := 60) dX2_foldedBy_60 (by first | decide | assumption) ?_
        refine x_istore3 (M := mX2_foldedBy) (pc := 61) dX2_foldedBy_61 ?_
        refine x_goto (M := mX2_foldedBy) (pc := 62) 37 dX2_foldedBy_62 (by decide) ?_
        exact x_use (by omega) (by omega) (ih (i + 1) (by omega) (by omega) (Or.inr trivial) _ _ (Or.inl (by rw [hu']; exact fbU_s hil')) (by omega) hF2)
theorem j_fb1 (h1 : xH) (sh fo n d uc us : Nat) (hn : n ≤ 9999) (Q : xO → xH → Prop) (hE : ∀ u, (u = fbU n 0 ∨ n = 0) → u ≤ 1000 → X g l mX2_foldedBy d 70 195 Q 37 [some (.ref sh), some (.int (nI n)), some (.ref fo), some (.int (nI u)), some (.int (nI n))] [] h1 uc us) : ∀ m j, 3 - j ≤ m → j ≤ 3 → (j < p_len n ∨ j = 0) → X g l mX2_foldedBy d 70 195 Q 18 [some (.ref sh), some (.int (nI n)), some (.ref fo), some (.int (nI (10 ^ j))), none] [] h1 uc us := by
  have h4 := p_len_le n
  have hl0 := len0 (n := n)
  intro m
  induction m with
  | zero =>
    intro j hm hj hjl
    have hjj : 10 ^ j ≤ 1000 := Nat.le_trans (Nat.pow_le_pow_right (by omega) hj) (by decide)
    have hlj := len_j hn hj
    refine x_iload_n (M := mX2_foldedBy) (pc := 18) dX2_foldedBy_18 rfl ?_
    refine x_iload_n (M := mX2_foldedBy) (pc := 19) dX2_foldedBy_19 rfl ?_
    refine x_bipush (M := mX2_foldedBy) (pc := 20) (v := nI 10) dX2_foldedBy_20 (by decide) ?_
    first | with_reducible refine x_idivN (M := mX2_foldedBy) (pc := 22) dX2_foldedBy_22 (by omega) (by omega) (by omega) ?_ | refine x_idiv (M := mX2_foldedBy) (pc := 22) dX2_foldedBy_22 (by first | decide | assumption) ?_
    refine x_icmp_gtN (M := mX2_foldedBy) (pc := 23) 34 dX2_foldedBy_23 (by decide) (by omega) (by omega) (fun z => ?_) (fun z => ?_)
    · refine x_iload_n (M := mX2_foldedBy) (pc := 34) dX2_foldedBy_34 rfl ?_
      refine x_istore4 (M := mX2_foldedBy) (pc := 35) dX2_foldedBy_35 ?_
      refine hE _ ?_ hjj
      by_cases q : n = 0
      · exact Or.inr q
      · left; unfold fbU; rw [if_pos (by omega), show p_len n - 1 - 0 = j by omega]
    · exfalso; have := hlj.mp z; omega
  | succ m ih =>
    intro j hm hj hjl
    have hjj : 10 ^ j ≤ 1000 := Nat.le_trans (Nat.pow_le_pow_right (by omega) hj) (by decide)
    have hlj := len_j hn hj
    refine x_iload_n (M := mX2_foldedBy) (pc := 18) dX2_foldedBy_18 rfl ?_
    refine x_iload_n (M := mX2_foldedBy) (pc := 19) dX2_foldedBy_19 rfl ?_
    refine x_bipush (M := mX2_foldedBy) (pc := 20) (v := nI 10) dX2_foldedBy_20 (by decide) ?_
    first | with_reducible refine x_idivN (M := mX2_foldedBy) (pc := 22) dX2_foldedBy_22 (by omega) (by omega) (by omega) ?_ | refine x_idiv (M := mX2_foldedBy) (pc := 22) dX2_foldedBy_22 (by first | decide | assumption) ?_
    refine x_icmp_gtN (M := mX2_foldedBy) (pc := 23) 34 dX2_foldedBy_23 (by decide) (by omega) (by omega) (fun z => ?_) (fun z => ?_)
    · refine x_iload_n (M := mX2_foldedBy) (pc := 34) dX2_foldedBy_34 rfl ?_
      refine x_istore4 (M := mX2_foldedBy) (pc := 35) dX2_foldedBy_35 ?_
      refine hE _ ?_ hjj
      by_cases q : n = 0
      · exact Or.inr q
      · left; unfold fbU
        have : ¬ j + 1 < p_len n := fun w => by have := hlj.mpr w; omega
        rw [if_pos (by omega), show p_len n - 1 - 0 = j by omega]
    · have := hlj.mp z
      refine x_iload_n (M := mX2_foldedBy) (pc := 26) dX2_foldedBy_26 rfl ?_
      refine x_bipush (M := mX2_foldedBy) (pc := 27) (v := nI 10) dX2_foldedBy_27 (by decide) ?_
      first | with_reducible refine x_imulN (M := mX2_foldedBy) (pc := 29) dX2_foldedBy_29 ?_ | refine x_imul (M := mX2_foldedBy) (pc := 29) dX2_foldedBy_29 ?_
      refine x_istore3 (M := mX2_foldedBy) (pc := 30) dX2_foldedBy_30 ?_
      refine x_goto (M := mX2_foldedBy) (pc := 31) 18 dX2_foldedBy_31 (by decide) ?_
      rw [← Nat.pow_succ]
      exact ih (j + 1) (by omega) (by omega) (Or.inl (by omega))
theorem c_foldedBy (h : xH) (sh hi wi n d : Nat) (hd : 5 ≤ d) (hn : n ≤ 9999) (vs : List Value) (hvs : vs.length = 12) (hok : p_ok hi wi 1 = true) (hcs : p_cans hi wi (p_dig n) (p_len n) = true) (hsh : h sh = some (.inr (2, .int (nI hi) :: .int (nI wi) :: vs))) : Ct g l mX2_foldedBy d 70 195 [.ref sh, .int (nI n)] h (fun o h' => ∃ fo, o = .inl (some (.ref fo)) ∧ FDN g h h' fo hi wi (p_dig n) (p_len n)) := by
  obtain ⟨b1, b2, -, b4, b5, -, b7⟩ := p_ok_b hok
  refine Ct.of [some (.ref sh), some (.int (nI n)), none, none, none] (by decide +kernel) rfl (Nat.le_of_ble_eq_true rfl) rfl rfl ?_
  refine x_new (M := mX2_foldedBy) (pc := 0) kcX5 q460 dX2_foldedBy_0 (by first | exact Nat.le_of_ble_eq_true rfl | omega) (by first | exact Nat.le_of_ble_eq_true rfl | omega) (fun q0_ hq0_ hb0_ => ?_)
  (try simp only [xu_noneI] at hq0_)
  repeat (obtain ⟨_, hq0_⟩ : _ ∧ _ := hq0_)
  refine x_dup (M := mX2_foldedBy) (pc := 3) dX2_foldedBy_3 ?_
  have hne : sh ≠ q0_ := fun e => by rw [← e, hsh] at hq0_; cases hq0_
  refine x_aload_n (M := mX2_foldedBy) (pc := 4) dX2_foldedBy_4 rfl ?_
  refine x_get (M := mX2_foldedBy) (pc := 5) kcX2 0 rfl q210 dX2_foldedBy_5 (by first | assumption | exact xu_s _ _ _ | exact (xu_n (by first | assumption | exact Ne.symm (by assumption) | exact xu_fresh (by assumption) (by assumption) | exact (xu_fresh (by assumption) (by assumption)).symm)).trans (by first | assumption | exact xu_s _ _ _ | exact (xu_n (by first | assumption | exact Ne.symm (by assumption) | exact xu_fresh (by assumption) (by assumption) | exact (xu_fresh (by assumption) (by assumption)).symm)).trans (by first | assumption | exact xu_s _ _ _ | exact (xu_n (by first | assumption | exact Ne.symm (by assumption) | exact xu_fresh (by assumption) (by assumption) | exact (xu_fresh (by assumption) (by assumption)).symm)).trans (by first | assumption | exact xu_s _ _ _)))) rfl ?_
  refine x_aload_n (M := mX2_foldedBy) (pc := 8) dX2_foldedBy_8 rfl ?_
  refine x_get (M := mX2_foldedBy) (pc := 9) kcX2 1 rfl q214 dX2_foldedBy_9 (by first | assumption | exact xu_s _ _ _ | exact (xu_n (by first | assumption | exact Ne.symm (by assumption) | exact xu_fresh (by assumption) (by assumption) | exact (xu_fresh (by assumption) (by assumption)).symm)).trans (by first | assumption | exact xu_s _ _ _ | exact (xu_n (by first | assumption | exact Ne.symm (by assumption) | exact xu_fresh (by assumption) (by assumption) | exact (xu_fresh (by assumption) (by assumption)).symm)).trans (by first | assumption | exact xu_s _ _ _ | exact (xu_n (by first | assumption | exact Ne.symm (by assumption) | exact xu_fresh (by assumption) (by assumption) | exact (xu_fresh (by assumption) (by assumption)).symm)).trans (by first | assumption | exact xu_s _ _ _)))) rfl ?_
  refine x_I2 (M := mX2_foldedBy) (pc := 12) (M' := mX5_init) q462 kIX5_init dX2_foldedBy_12 (c_fdInit h _ q0_ hi wi (hi * wi) (d - 1) (by omega) rfl (by omega) (by omega) (by omega) _ _ _ (xu_s _ _ _) hq0_ (xle.fr hq0_)) (fun v_ h hq_ => ?_)
  obtain ⟨hv_, hF2⟩ := hq_; cases hv_
  refine x_astore2 (M := mX2_foldedBy) (pc := 15) dX2_foldedBy_15 ?_
  refine x_iconst (M := mX2_foldedBy) (pc := 16) (v := nI 1) dX2_foldedBy_16 (by decide) ?_
  refine x_istore3 (M := mX2_foldedBy) (pc := 17) dX2_foldedBy_17 ?_
  skip
  refine x_use (uc' := 34 + 9 * 0) (us' := 99 + 24 * 0) (by omega) (by omega) (j_fb1 _ sh q0_ n d _ _ hn _ (fun u hu hu1 => ?_) 3 0 (by omega) (by omega) (Or.inr rfl))
  exact j_fb2 _ sh q0_ hi wi n d hd hn hok hcs _ (fun h' hF => ⟨q0_, rfl, hF⟩) (p_len n) 0 (by omega) (by omega) (Or.inr trivial) _ u hu hu1 hF2
end SHBY

/-! Sheet.isRow -/
section ISROWC
set_option maxRecDepth 100000
variable {g : xG} {l : Launch} {h h0 h' : xH}
theorem irw_le {x : Nat × Nat} : ∀ q n a d, irw q n a d = some x → x.1 ≤ a + q ∧ x.2 ≤ d + q
  | 0, n, a, d, h => by cases h; exact ⟨Nat.le_refl _, Nat.le_refl _⟩
  | q + 1, n, a, d, h => by
    unfold irw at h
    split at h
    · cases h; exact ⟨Nat.le_add_right _ _, Nat.le_add_right _ _⟩
    · split at h
      · cases h
      · split at h
        · have := irw_le q _ _ _ h; omega
        · have := irw_le q _ _ _ h; omega
theorem bIn14 {n : Nat} (hn : n < 10) : bIn (nI n) (nI 1) (nI 4) = decide (1 ≤ n ∧ n ≤ 4) := by
  unfold bIn; rw [decide_eq_decide]; exact in_nat (by omega) (by omega) (by omega)
theorem irw_s {q n a d : Nat} (h0 : n ≠ 0) (h1 : 1 ≤ n % 10) (h2 : n % 10 ≤ 4) : irw (q + 1) n a d = irw q (n / 10) (a + (if n % 10 < 3 then 1 else 0)) (d + (if n % 10 < 3 then 0 else 1)) := by
  rw [irw, if_neg h0, if_neg (by omega)]
  split <;> rfl
theorem c_irT (h : xH) (sh d : Nat) (P : Nat → Nat) (s : Row) (hW : WF s) (hsh : h sh = some (shE P s)) (v : Int32) (a b : Nat) (ha : a ≤ 11) (hb : b ≤ 11) (l4 : Value) (l5 : Option Value) (Q : xO → xH → Prop) (hE : Q (.inl (some (.int (bI (decide (0 ≤ v) && irE (zHi s) (zWi s) (some (a, b))))))) h) : X g l mX2_isRow d 0 0 Q 69 [some (.ref sh), some (.int v), some (.int (nI a)), some (.int (nI b)), some l4, l5] [] h 0 0 := by
  have hbb := hW.b
  have p1 : 2 ^ a ≤ 2 ^ 11 := Nat.pow_le_pow_right (by omega) ha
  have p2 : 2 ^ b ≤ 2 ^ 11 := Nat.pow_le_pow_right (by omega) hb
  unfold shE at hsh
  refine x_iload_n (M := mX2_isRow) (pc := 69) dX2_isRow_69 rfl ?_
  refine x_if_lt (M := mX2_isRow) (pc := 70) 104 dX2_isRow_70 (by decide) (fun c => ?_) (fun c => ?_)
  · refine x_iconst (M := mX2_isRow) (pc := 104) (v := nI 0) dX2_isRow_104 (by decide) ?_
    refine x_zret (M := mX2_isRow) (pc := 105) dX2_isRow_105 rfl (by first | with_reducible exact xz0 | with_reducible exact xz1 | with_reducible exact bI_01 _ | with_reducible assumption | assumption) (by first | exact Nat.le_of_ble_eq_true rfl | omega) (by first | exact Nat.le_of_ble_eq_true rfl | omega) ?_
    rw [show (decide (0 ≤ v) && irE (zHi s) (zWi s) (some (a, b))) = false by rw [decide_eq_false (Int32.not_le.mpr c)]; rfl] at hE
    exact hE
  · have hv : decide (0 ≤ v) = true := decide_eq_true (Int32.not_lt.mp c)
    rw [hv, Bool.true_and] at hE
    simp only [irE] at hE
    refine x_iload_n (M := mX2_isRow) (pc := 73) dX2_isRow_73 rfl ?_
    refine x_iload_n (M := mX2_isRow) (pc := 74) dX2_isRow_74 rfl ?_
    first | with_reducible refine x_iaddN (M := mX2_isRow) (pc := 75) dX2_isRow_75 ?_ | refine x_iadd (M := mX2_isRow) (pc := 75) dX2_isRow_75 ?_
    refine x_iconst (M := mX2_isRow) (pc := 76) (v := nI 4) dX2_isRow_76 (by decide) ?_
    first | with_reducible refine x_icmp_gtN (M := mX2_isRow) (pc := 77) 104 dX2_isRow_77 (by decide) (by omega) (by omega) (fun c1 => ?_) (fun c1 => ?_) | refine x_icmp_gt (M := mX2_isRow) (pc := 77) 104 dX2_isRow_77 (by decide) (fun c1 => ?_) (fun c1 => ?_)
    · refine x_iconst (M := mX2_isRow) (pc := 104) (v := nI 0) dX2_isRow_104 (by decide) ?_
      refine x_zret (M := mX2_isRow) (pc := 105) dX2_isRow_105 rfl (by first | with_reducible exact xz0 | with_reducible exact xz1 | with_reducible exact bI_01 _ | with_reducible assumption | assumption) (by first | exact Nat.le_of_ble_eq_true rfl | omega) (by first | exact Nat.le_of_ble_eq_true rfl | omega) ?_
      rw [decide_eq_false (show ¬ (a + b ≤ 4) by omega)] at hE
      exact hE
    · refine x_iconst (M := mX2_isRow) (pc := 80) (v := 1) dX2_isRow_80 (by decide) ?_
      refine x_iload_n (M := mX2_isRow) (pc := 81) dX2_isRow_81 rfl ?_
      refine x_ishl (M := mX2_isRow) (pc := 82) dX2_isRow_82 ?_
      refine x_val (M := mX2_isRow) (pc := 83) (nI_one _ (by omega)) ?_
      refine x_aload_n (M := mX2_isRow) (pc := 83) dX2_isRow_83 rfl ?_
      refine x_get (M := mX2_isRow) (pc := 84) kcX2 1 rfl q214 dX2_isRow_84 (by first | assumption | exact xu_s _ _ _ | exact (xu_n (by first | assumption | exact Ne.symm (by assumption) | exact xu_fresh (by assumption) (by assumption) | exact (xu_fresh (by assumption) (by assumption)).symm)).trans (by first | assumption | exact xu_s _ _ _ | exact (xu_n (by first | assumption | exact Ne.symm (by assumption) | exact xu_fresh (by assumption) (by assumption) | exact (xu_fresh (by assumption) (by assumption)).symm)).trans (by first | assumption | exact xu_s _ _ _ | exact (xu_n (by first | assumption | exact Ne.symm (by assumption) | exact xu_fresh (by assumption) (by assumption) | exact (xu_fresh (by assumption) (by assumption)).symm)).trans (by first | assumption | exact xu_s _ _ _)))) rfl ?_
      first | with_reducible refine x_icmp_neN (M := mX2_isRow) (pc := 87) 104 dX2_isRow_87 (by decide) (by omega) (by omega) (fun c2 => ?_) (fun c2 => ?_) | refine x_icmp_ne (M := mX2_isRow) (pc := 87) 104 dX2_isRow_87 (by decide) (fun c2 => ?_) (fun c2 => ?_)
      · refine x_iconst (M := mX2_isRow) (pc := 104) (v := nI 0) dX2_isRow_104 (by decide) ?_
        refine x_zret (M := mX2_isRow) (pc := 105) dX2_isRow_105 rfl (by first | with_reducible exact xz0 | with_reducible exact xz1 | with_reducible exact bI_01 _ | with_reducible assumption | assumption) (by first | exact Nat.le_of_ble_eq_true rfl | omega) (by first | exact Nat.le_of_ble_eq_true rfl | omega) ?_
        rw [decide_eq_false (show ¬ (2 ^ a = zWi s) by omega), Bool.and_false, Bool.false_and] at hE
        exact hE
      · refine x_iconst (M := mX2_isRow) (pc := 90) (v := 1) dX2_isRow_90 (by decide) ?_
        refine x_iload_n (M := mX2_isRow) (pc := 91) dX2_isRow_91 rfl ?_
        refine x_ishl (M := mX2_isRow) (pc := 92) dX2_isRow_92 ?_
        refine x_val (M := mX2_isRow) (pc := 93) (nI_one _ (by omega)) ?_
        refine x_aload_n (M := mX2_isRow) (pc := 93) dX2_isRow_93 rfl ?_
        refine x_get (M := mX2_isRow) (pc := 94) kcX2 0 rfl q210 dX2_isRow_94 (by first | assumption | exact xu_s _ _ _ | exact (xu_n (by first | assumption | exact Ne.symm (by assumption) | exact xu_fresh (by assumption) (by assumption) | exact (xu_fresh (by assumption) (by assumption)).symm)).trans (by first | assumption | exact xu_s _ _ _ | exact (xu_n (by first | assumption | exact Ne.symm (by assumption) | exact xu_fresh (by assumption) (by assumption) | exact (xu_fresh (by assumption) (by assumption)).symm)).trans (by first | assumption | exact xu_s _ _ _ | exact (xu_n (by first | assumption | exact Ne.symm (by assumption) | exact xu_fresh (by assumption) (by assumption) | exact (xu_fresh (by assumption) (by assumption)).symm)).trans (by first | assumption | exact xu_s _ _ _)))) rfl ?_
        first | with_reducible refine x_icmp_neN (M := mX2_isRow) (pc := 97) 104 dX2_isRow_97 (by decide) (by omega) (by omega) (fun c3 => ?_) (fun c3 => ?_) | refine x_icmp_ne (M := mX2_isRow) (pc := 97) 104 dX2_isRow_97 (by decide) (fun c3 => ?_) (fun c3 => ?_)
        · refine x_iconst (M := mX2_isRow) (pc := 104) (v := nI 0) dX2_isRow_104 (by decide) ?_
          refine x_zret (M := mX2_isRow) (pc := 105) dX2_isRow_105 rfl (by first | with_reducible exact xz0 | with_reducible exact xz1 | with_reducible exact bI_01 _ | with_reducible assumption | assumption) (by first | exact Nat.le_of_ble_eq_true rfl | omega) (by first | exact Nat.le_of_ble_eq_true rfl | omega) ?_
          rw [decide_eq_false (show ¬ (2 ^ b = zHi s) by omega), Bool.and_false] at hE
          exact hE
        · refine x_iconst (M := mX2_isRow) (pc := 100) (v := nI 1) dX2_isRow_100 (by decide) ?_
          refine x_goto (M := mX2_isRow) (pc := 101) 105 dX2_isRow_101 (by decide) ?_
          refine x_zret (M := mX2_isRow) (pc := 105) dX2_isRow_105 rfl (by first | with_reducible exact xz0 | with_reducible exact xz1 | with_reducible exact bI_01 _ | with_reducible assumption | assumption) (by first | exact Nat.le_of_ble_eq_true rfl | omega) (by first | exact Nat.le_of_ble_eq_true rfl | omega) ?_
          rw [decide_eq_true (show a + b ≤ 4 by omega), decide_eq_true c2, decide_eq_true c3] at hE
          exact hE
theorem c_irL (h : xH) (sh d : Nat) (hd : 1 ≤ d) (P : Nat → Nat) (s : Row) (hW : WF s) (hsh : h sh = some (shE P s)) (v : Int32) (Q : xO → xH → Prop) (r : Option (Nat × Nat)) (hE : ∀ b, b = (decide (0 ≤ v) && irE (zHi s) (zWi s) r) → Q (.inl (some (.int (bI b)))) h) : ∀ q n a b l5, n < 10 ^ q → n < 2 ^ 31 → irw (q + 1) n a b = r → a + q ≤ 10 → b + q ≤ 10 → X g l mX2_isRow d 0 0 Q 7 [some (.ref sh), some (.int v), some (.int (nI a)), some (.int (nI b)), some (.int (nI n)), l5] [] h 0 0 := by
  intro q
  induction q with
  | zero =>
    intro n a b l5 hn _ hr ha hb
    have : n = 0 := by simpa using hn
    subst this
    refine x_iload (M := mX2_isRow) (pc := 7) dX2_isRow_7 rfl ?_
    refine x_if_leN (M := mX2_isRow) (pc := 9) 69 dX2_isRow_9 (by decide) (by omega) (fun c => ?_) (fun c => absurd c (by omega))
    refine c_irT h sh d P s hW hsh v a b (by omega) (by omega) _ _ _ (hE _ ?_)
    rw [← hr]; rfl
  | succ q ih =>
    intro n a b l5 hn hn2 hr ha hb
    refine x_iload (M := mX2_isRow) (pc := 7) dX2_isRow_7 rfl ?_
    refine x_if_leN (M := mX2_isRow) (pc := 9) 69 dX2_isRow_9 (by decide) (by omega) (fun c => ?_) (fun c => ?_)
    · refine c_irT h sh d P s hW hsh v a b (by omega) (by omega) _ _ _ (hE _ ?_)
      rw [← hr, irw, if_pos c]
    · have hm : n % 10 < 10 := Nat.mod_lt _ (by omega)
      refine x_iload (M := mX2_isRow) (pc := 12) dX2_isRow_12 rfl ?_
      refine x_bipush (M := mX2_isRow) (pc := 14) (v := nI 10) dX2_isRow_14 (by decide) ?_
      first | with_reducible refine x_iremN (M := mX2_isRow) (pc := 16) dX2_isRow_16 (by omega) (by omega) (by omega) ?_ | refine x_irem (M := mX2_isRow) (pc := 16) dX2_isRow_16 (by first | decide | assumption) ?_
      refine x_istore5 (M := mX2_isRow) (pc := 17) dX2_isRow_17 ?_
      refine x_iload (M := mX2_isRow) (pc := 19) dX2_isRow_19 rfl ?_
      refine x_iconst (M := mX2_isRow) (pc := 21) (v := nI 1) dX2_isRow_21 (by decide) ?_
      refine x_iconst (M := mX2_isRow) (pc := 22) (v := nI 4) dX2_isRow_22 (by decide) ?_
      refine x_SN3 (M := mX2_isRow) (pc := 23) (M' := mX0_isIn) q571 kSX0_isIn dX2_isRow_23 (c_isInN h (nI (n % 10)) 1 4 (d - 1)) (fun v_ h1 hq_ => ?_)
      obtain ⟨hv_, rfl⟩ := hq_; cases hv_
      refine x_val (M := mX2_isRow) (pc := 26) (congrArg bI (bIn14 hm)) ?_
      refine x_ifB_ne (M := mX2_isRow) (pc := 26) 31 dX2_isRow_26 (by decide) (fun c2 => ?_) (fun c2 => ?_)
      · have c2 := of_decide_eq_true c2
        rw [irw_s (by omega) c2.1 c2.2] at hr
        refine x_iload_n (M := mX2_isRow) (pc := 31) dX2_isRow_31 rfl ?_
        refine x_joinV 43 (nI (if n % 10 < 3 then 1 else 0)) (fun J => ?_) ?_
        · refine x_iload (M := mX2_isRow) (pc := 32) dX2_isRow_32 rfl ?_
          refine x_iconst (M := mX2_isRow) (pc := 34) (v := nI 3) dX2_isRow_34 (by decide) ?_
          first | with_reducible refine x_icmp_geN (M := mX2_isRow) (pc := 35) 42 dX2_isRow_35 (by decide) (by omega) (by omega) (fun c35 => ?_) (fun c35 => ?_) | refine x_icmp_ge (M := mX2_isRow) (pc := 35) 42 dX2_isRow_35 (by decide) (fun c35 => ?_) (fun c35 => ?_)
          · refine x_iconst (M := mX2_isRow) (pc := 42) (v := nI 0) dX2_isRow_42 (by decide) ?_
            exact J _ (by first | rw [if_pos (by omega)] | rw [if_neg (by omega)])
          · refine x_iconst (M := mX2_isRow) (pc := 38) (v := nI 1) dX2_isRow_38 (by decide) ?_
            refine x_goto (M := mX2_isRow) (pc := 39) 43 dX2_isRow_39 (by decide) ?_
            exact J _ (by first | rw [if_pos (by omega)] | rw [if_neg (by omega)])
        first | with_reducible refine x_iaddN (M := mX2_isRow) (pc := 43) dX2_isRow_43 ?_ | refine x_iadd (M := mX2_isRow) (pc := 43) dX2_isRow_43 ?_
        refine x_istore2 (M := mX2_isRow) (pc := 44) dX2_isRow_44 ?_
        refine x_iload_n (M := mX2_isRow) (pc := 45) dX2_isRow_45 rfl ?_
        refine x_joinV 57 (nI (if n % 10 < 3 then 0 else 1)) (fun J => ?_) ?_
        · refine x_iload (M := mX2_isRow) (pc := 46) dX2_isRow_46 rfl ?_
          refine x_iconst (M := mX2_isRow) (pc := 48) (v := nI 3) dX2_isRow_48 (by decide) ?_
          first | with_reducible refine x_icmp_geN (M := mX2_isRow) (pc := 49) 56 dX2_isRow_49 (by decide) (by omega) (by omega) (fun c49 => ?_) (fun c49 => ?_) | refine x_icmp_ge (M := mX2_isRow) (pc := 49) 56 dX2_isRow_49 (by decide) (fun c49 => ?_) (fun c49 => ?_)
          · refine x_iconst (M := mX2_isRow) (pc := 56) (v := nI 1) dX2_isRow_56 (by decide) ?_
            exact J _ (by first | rw [if_pos (by omega)] | rw [if_neg (by omega)])
          · refine x_iconst (M := mX2_isRow) (pc := 52) (v := nI 0) dX2_isRow_52 (by decide) ?_
            refine x_goto (M := mX2_isRow) (pc := 53) 57 dX2_isRow_53 (by decide) ?_
            exact J _ (by first | rw [if_pos (by omega)] | rw [if_neg (by omega)])
        first | with_reducible refine x_iaddN (M := mX2_isRow) (pc := 57) dX2_isRow_57 ?_ | refine x_iadd (M := mX2_isRow) (pc := 57) dX2_isRow_57 ?_
        refine x_istore3 (M := mX2_isRow) (pc := 58) dX2_isRow_58 ?_
        refine x_iload (M := mX2_isRow) (pc := 59) dX2_isRow_59 rfl ?_
        refine x_bipush (M := mX2_isRow) (pc := 61) (v := nI 10) dX2_isRow_61 (by decide) ?_
        first | with_reducible refine x_idivN (M := mX2_isRow) (pc := 63) dX2_isRow_63 (by omega) (by omega) (by omega) ?_ | refine x_idiv (M := mX2_isRow) (pc := 63) dX2_isRow_63 (by first | decide | assumption) ?_
        refine x_istore4 (M := mX2_isRow) (pc := 64) dX2_isRow_64 ?_
        refine x_goto (M := mX2_isRow) (pc := 66) 7 dX2_isRow_66 (by decide) ?_
        skip
        refine ih (n / 10) _ _ _ ?_ (by omega) hr (by split <;> omega) (by split <;> omega)
        rw [Nat.div_lt_iff_lt_mul (by omega), ← Nat.pow_succ]; exact hn
      · have c2 := of_decide_eq_false c2
        refine x_iconst (M := mX2_isRow) (pc := 29) (v := nI 0) dX2_isRow_29 (by decide) ?_
        refine x_zret (M := mX2_isRow) (pc := 30) dX2_isRow_30 rfl (by first | with_reducible exact xz0 | with_reducible exact xz1 | with_reducible exact bI_01 _ | with_reducible assumption | assumption) (by first | exact Nat.le_of_ble_eq_true rfl | omega) (by first | exact Nat.le_of_ble_eq_true rfl | omega) ?_
        refine hE false ?_
        rw [← hr, irw, if_neg (by omega), if_pos (by omega)]; simp [irE]
theorem c_isRow (h : xH) (sh d : Nat) (hd : 1 ≤ d) (P : Nat → Nat) (s : Row) (hW : WF s) (hsh : h sh = some (shE P s)) (v : Int32) : Ct g l mX2_isRow d 0 0 [.ref sh, .int v] h (fun o h' => o = .inl (some (.int (bI (p_isRowI (zHi s) (zWi s) v)))) ∧ h' = h) := by
  refine Ct.of [some (.ref sh), some (.int v), none, none, none, none] (by decide +kernel) rfl (Nat.le_of_ble_eq_true rfl) rfl rfl ?_
  refine x_iconst (M := mX2_isRow) (pc := 0) (v := nI 0) dX2_isRow_0 (by decide) ?_
  refine x_istore2 (M := mX2_isRow) (pc := 1) dX2_isRow_1 ?_
  refine x_iconst (M := mX2_isRow) (pc := 2) (v := nI 0) dX2_isRow_2 (by decide) ?_
  refine x_istore3 (M := mX2_isRow) (pc := 3) dX2_isRow_3 ?_
  refine x_iload_n (M := mX2_isRow) (pc := 4) dX2_isRow_4 rfl ?_
  refine x_istore4 (M := mX2_isRow) (pc := 5) dX2_isRow_5 ?_
  by_cases hv : 0 ≤ v
  · obtain ⟨n, hn, rfl⟩ := nI_of (Int32.not_lt.mpr hv)
    rw [p_isRowI_n _ _ _ hn, ← ir_row hW.ok]
    refine c_irL h sh d hd P s hW hsh (nI n) _ (irw 11 n 0 0) (fun b e => ⟨?_, rfl⟩) 10 n 0 0 none (by omega) hn rfl (by omega) (by omega)
    rw [e, decide_eq_true hv, Bool.true_and]
  · have e : p_isRowI (zHi s) (zWi s) v = false := by unfold p_isRowI; rw [decide_eq_false hv]; rfl
    rw [e]
    refine x_iload (M := mX2_isRow) (pc := 7) dX2_isRow_7 rfl ?_
    refine x_if_le (M := mX2_isRow) (pc := 9) 69 dX2_isRow_9 (by decide) (fun c => ?_) (fun c => absurd (Int32.le_of_lt (Int32.not_le.mp hv)) c)
    refine c_irT h sh d P s hW hsh v 0 0 (by omega) (by omega) _ _ _ ⟨?_, rfl⟩
    rw [decide_eq_false hv]; rfl
end ISROWC

section MODEL6
set_option maxRecDepth 100000
variable {g : xG} {l : Launch} {m : Nat} {A : Nat → Nat} {I : Nat → Int32} {B : Nat → Nat → Int32} {wd : Int64}
theorem m_inI (h : xH) (v lo hi : Int32) (Lo Hi : Int64) (e1 : lo.toInt64 = Lo) (e2 : hi.toInt64 = Hi) (d : Nat) : Ct g l mX3_in d 0 0 [.long v.toInt64, .long Lo, .long Hi] h (fun o h' => o = .inl (some (.int (bI (decide (lo ≤ v ∧ v ≤ hi))))) ∧ h' = h) := by
  subst e1; subst e2
  refine (m_in h v.toInt64 lo.toInt64 hi.toInt64 d).mono (fun o h' hq => ⟨hq.1.trans ?_, hq.2⟩)
  rw [decide_eq_decide.mpr (show (lo.toInt64 ≤ v.toInt64 ∧ v.toInt64 ≤ hi.toInt64) ↔ (lo ≤ v ∧ v ≤ hi) by rw [toI64_le, toI64_le])]
theorem in_of {x : Int32} {a b : Nat} (ha : a < 2 ^ 31) (hb : b < 2 ^ 31) : (nI a ≤ x ∧ x ≤ nI b) ↔ ∃ n, x = nI n ∧ a ≤ n ∧ n ≤ b := by
  constructor
  · rintro ⟨h1, h2⟩
    have h0 : ¬ x < 0 := by
      rw [Int32.not_lt]
      exact Int32.le_trans (nI_pos' ha) h1
    obtain ⟨j, hj, rfl⟩ := nI_of h0
    exact ⟨j, rfl, (nI_leI ha hj).mp h1, (nI_leI hj hb).mp h2⟩
  · rintro ⟨n, rfl, h1, h2⟩
    exact ⟨nI_le h1 (by omega), nI_le h2 hb⟩
theorem in_nat {n a b : Nat} (hn : n < 2 ^ 31) (ha : a < 2 ^ 31) (hb : b < 2 ^ 31) : (nI a ≤ nI n ∧ nI n ≤ nI b) ↔ (a ≤ n ∧ n ≤ b) := by rw [nI_leI ha hn, nI_leI hn hb]
theorem m_inN (h : xH) (v a b : Nat) (Lo Hi : Int64) (e1 : (nI a).toInt64 = Lo) (e2 : (nI b).toInt64 = Hi) (hv : v < 2 ^ 31) (ha : a < 2 ^ 31) (hb : b < 2 ^ 31) (d : Nat) : Ct g l mX3_in d 0 0 [.long (nI v).toInt64, .long Lo, .long Hi] h (fun o h' => o = .inl (some (.int (bI (decide (a ≤ v ∧ v ≤ b))))) ∧ h' = h) := by
  refine (m_inI h (nI v) (nI a) (nI b) Lo Hi e1 e2 d).mono (fun o h' hq => ⟨hq.1.trans ?_, hq.2⟩)
  rw [decide_eq_decide.mpr (in_nat hv ha hb)]
def p_isRowI (hi wi : Nat) (v : Int32) : Bool := decide (0 ≤ v) && p_isRow hi wi v.toNatClampNeg
theorem p_isRowI_n (hi wi n : Nat) (hn : n < 2 ^ 31) : p_isRowI hi wi (nI n) = p_isRow hi wi n := by
  unfold p_isRowI
  rw [nI_clamp hn, decide_eq_true (nI_pos' hn)]; rfl
/-- what a row of folds as a number leaves -/
def BYP (I : Nat → Int32) (B : Nat → Nat → Int32) (wd : Int64) (hi wi : Nat) (v : Int32) : Option Value → (Nat → Int32) → (Nat → Nat → Int32) → Int64 → Prop := fun r I' B' wd' =>
  r = some (.int (bI (p_isRowI hi wi v))) ∧ LF I B wd I' B' wd' ∧ (p_isRowI hi wi v = true → LAYN I' B' hi wi (p_dig v.toNatClampNeg) (p_len v.toNatClampNeg))
theorem pow10_div (k : Nat) : 10 ^ (k + 1) / 10 = 10 ^ k := by rw [Nat.pow_succ]; exact Nat.mul_div_cancel _ (by omega)
theorem p_unit1 {n : Nat} (h : n ≤ 9) : 1 = 10 ^ (p_len n - 1) := by
  unfold p_len
  by_cases e : n = 0
  · rw [if_pos e]
  · rw [if_neg e, if_neg (by omega), if_neg (by omega), if_neg (by omega)]
theorem p_unit2 {n : Nat} (h : 9 < n) (h2 : n ≤ 99) : 10 = 10 ^ (p_len n - 1) := by
  unfold p_len
  rw [if_neg (by omega), if_neg (by omega), if_neg (by omega), if_pos (by omega)]
theorem p_unit3 {n : Nat} (h : 99 < n) (h2 : n ≤ 999) : 100 = 10 ^ (p_len n - 1) := by
  unfold p_len
  rw [if_neg (by omega), if_neg (by omega), if_pos (by omega)]
theorem p_unit4 {n : Nat} (h : 999 < n) : 1000 = 10 ^ (p_len n - 1) := by
  unfold p_len
  rw [if_neg (by omega), if_pos (by omega)]
theorem m_layBy_l (d hi wi n : Nat) (hn : n ≤ 9999) (hn0 : 0 < n) (hd : 2 ≤ d) (hok : p_ok hi wi 1 = true) (I0 : Nat → Int32) (B0 : Nat → Nat → Int32) (wd0 : Int64) (h00 : B0 0 0 = nI hi) (h01 : B0 0 1 = nI wi) (h0 : xH) (u : Int32) :
    ∀ j i, i + j = p_len n → ∀ b, (i < p_len n → b = 10 ^ (p_len n - 1 - i)) → (i = p_len n → b = 0) → p_cans hi wi (p_dig n) i = true → ∀ h I B wd a4, MR g h m A I B wd → MF m A h0 h → LF I0 B0 wd0 I B wd → LAYN I B hi wi (p_dig n) i →
    X g l mX3_layBy d 0 0 (fun o h' => ∃ v I' B' wd', o = .inl v ∧ BYP I0 B0 wd0 hi wi (nI n) v I' B' wd' ∧ MR g h' m A I' B' wd' ∧ MF m A h0 h') 56 [some (.ref m), some (.int (nI n)), some (.int u), some (.int (nI b)), a4] [] h 0 0 := by
  have hb := p_ok_b hok
  intro j
  induction j with
  | zero =>
    intro i hi' b _ hb2 hc h I B wd a4 hM hF hL hY
    have : i = p_len n := by omega
    subst this
    have hb0 := hb2 rfl
    subst hb0
    have hm := p_layn_ma hi wi (p_dig n) (p_len n)
    have h16 := (p_ok_b (p_layn_ok hok _ hc).1).2.2.1
    rw [hm] at h16
    refine x_iload_n (M := mX3_layBy) (pc := 56) dX3_layBy_56 rfl ?_
    first | with_reducible refine x_if_leN (M := mX3_layBy) (pc := 57) 110 dX3_layBy_57 (by decide) (by omega) (fun c1 => ?_) (fun c1 => ?_) | refine x_if_le (M := mX3_layBy) (pc := 57) 110 dX3_layBy_57 (by decide) (fun c1 => ?_) (fun c1 => ?_)
    · omega
    · refine x_iload_n (M := mX3_layBy) (pc := 60) dX3_layBy_60 rfl ?_
      first | with_reducible refine x_if_leN (M := mX3_layBy) (pc := 61) 110 dX3_layBy_61 (by decide) (by omega) (fun c2 => ?_) (fun c2 => ?_) | refine x_if_le (M := mX3_layBy) (pc := 61) 110 dX3_layBy_61 (by decide) (fun c2 => ?_) (fun c2 => ?_)
      · refine x_aload_n (M := mX3_layBy) (pc := 110) dX3_layBy_110 rfl ?_
        refine x_get (M := mX3_layBy) (pc := 111) kcX3 9 rfl q2844 dX3_layBy_111 hM.1 rfl ?_
        refine x_val (M := mX3_layBy) (pc := 114) (hY.2.2.1.trans (congrArg nI hm)) ?_
        refine x_aload_n (M := mX3_layBy) (pc := 114) dX3_layBy_114 rfl ?_
        refine x_V0 (M := mX3_layBy) (pc := 115) (M' := mX3_cells) q3006 kVX3_cells dX3_layBy_115 (m_cells (d - 1) h hM) (hM.is) (fun v_ h hq_ => ?_)
        obtain ⟨v_, I_, B_, wd_, hv_, hQ, hM_, hF_⟩ := hq_
        cases hv_
        replace hF := hF.tr hF_
        replace hM := hM_
        clear hM_ hF_
        obtain ⟨rfl, rfl, rfl, rfl⟩ := hQ
        refine x_val (M := mX3_layBy) (pc := 118) (show _ = nI (hi * wi) by rw [hL.2.1 0 (by omega), h00, h01, pk_mul]) ?_
        first | with_reducible refine x_icmp_neN (M := mX3_layBy) (pc := 118) 125 dX3_layBy_118 (by decide) (by omega) (by omega) (fun c118 => ?_) (fun c118 => ?_) | refine x_icmp_ne (M := mX3_layBy) (pc := 118) 125 dX3_layBy_118 (by decide) (fun c118 => ?_) (fun c118 => ?_)
        · refine x_iconst (M := mX3_layBy) (pc := 125) (v := nI 0) dX3_layBy_125 (by decide) ?_
          refine x_zret (M := mX3_layBy) (pc := 126) dX3_layBy_126 rfl (by first | with_reducible exact xz0 | with_reducible exact xz1 | with_reducible exact bI_01 _ | with_reducible assumption | assumption) (Nat.le_refl 0) (Nat.le_refl 0) ⟨_, _, _, _, rfl, ?_, hM, hF⟩
          refine ⟨?_, hL, fun _ => by rw [nI_clamp (by omega)]; exact hY⟩; rw [p_isRowI_n _ _ _ (by omega)]; first | exact vB1 (by simp [p_isRow, hn, hc, *]) | exact vB0 (by simp [p_isRow, hn, hc, *])
        · refine x_iconst (M := mX3_layBy) (pc := 121) (v := nI 1) dX3_layBy_121 (by decide) ?_
          refine x_goto (M := mX3_layBy) (pc := 122) 126 dX3_layBy_122 (by decide) ?_
          refine x_zret (M := mX3_layBy) (pc := 126) dX3_layBy_126 rfl (by first | with_reducible exact xz0 | with_reducible exact xz1 | with_reducible exact bI_01 _ | with_reducible assumption | assumption) (Nat.le_refl 0) (Nat.le_refl 0) ⟨_, _, _, _, rfl, ?_, hM, hF⟩
          refine ⟨?_, hL, fun _ => by rw [nI_clamp (by omega)]; exact hY⟩; rw [p_isRowI_n _ _ _ (by omega)]; first | exact vB1 (by simp [p_isRow, hn, hc, *]) | exact vB0 (by simp [p_isRow, hn, hc, *])
      · omega
  | succ j ih =>
    intro i hi' b hb1 _ hc h I B wd a4 hM hF hL hY
    have hbb := hb1 (by omega)
    have hpos : 0 < b := by rw [hbb]; exact Nat.pow_pos (by omega)
    have hble : b ≤ 10 ^ 4 := by rw [hbb]; exact Nat.pow_le_pow_right (by omega) (by have := p_len_le n; omega)
    have hdv : n / b ≤ n := Nat.div_le_self _ _
    have hok2 := p_ok_b (p_layn_ok hok _ hc).1
    have hfalse : p_can (p_dig n i) (p_layn hi wi (p_dig n) i).1 (p_layn hi wi (p_dig n) i).2.1 = false → p_isRowI hi wi (nI n) = false := fun z => by
      rw [p_isRowI_n _ _ _ (by omega), p_isRow]
      have : p_cans hi wi (p_dig n) (p_len n) = false := by
        cases hq : p_cans hi wi (p_dig n) (p_len n) with
        | false => rfl
        | true => rw [p_cans_at (by omega) hq] at z; cases z
      simp [this]
    have hdg : n / b % 10 = p_dig n i := by rw [p_dig, hbb]
    refine x_iload_n (M := mX3_layBy) (pc := 56) dX3_layBy_56 rfl ?_
    first | with_reducible refine x_if_leN (M := mX3_layBy) (pc := 57) 110 dX3_layBy_57 (by decide) (by omega) (fun c1 => ?_) (fun c1 => ?_) | refine x_if_le (M := mX3_layBy) (pc := 57) 110 dX3_layBy_57 (by decide) (fun c1 => ?_) (fun c1 => ?_)
    · omega
    · refine x_iload_n (M := mX3_layBy) (pc := 60) dX3_layBy_60 rfl ?_
      first | with_reducible refine x_if_leN (M := mX3_layBy) (pc := 61) 110 dX3_layBy_61 (by decide) (by omega) (fun c2 => ?_) (fun c2 => ?_) | refine x_if_le (M := mX3_layBy) (pc := 61) 110 dX3_layBy_61 (by decide) (fun c2 => ?_) (fun c2 => ?_)
      · omega
      · refine x_iload_n (M := mX3_layBy) (pc := 64) dX3_layBy_64 rfl ?_
        refine x_iload_n (M := mX3_layBy) (pc := 65) dX3_layBy_65 rfl ?_
        first | with_reducible refine x_idivN (M := mX3_layBy) (pc := 66) dX3_layBy_66 (by omega) (by omega) (by omega) ?_ | refine x_idiv (M := mX3_layBy) (pc := 66) dX3_layBy_66 (by first | decide | assumption) ?_
        refine x_bipush (M := mX3_layBy) (pc := 67) (v := nI 10) dX3_layBy_67 (by decide) ?_
        first | with_reducible refine x_iremN (M := mX3_layBy) (pc := 69) dX3_layBy_69 (by omega) (by omega) (by omega) ?_ | refine x_irem (M := mX3_layBy) (pc := 69) dX3_layBy_69 (by first | decide | assumption) ?_
        refine x_val (M := mX3_layBy) (pc := 70) (congrArg nI hdg) ?_
        refine x_istore4 (M := mX3_layBy) (pc := 70) dX3_layBy_70 ?_
        refine x_iload (M := mX3_layBy) (pc := 72) dX3_layBy_72 rfl ?_
        refine x_i2l (M := mX3_layBy) (pc := 74) dX3_layBy_74 ?_
        refine x_lconst (M := mX3_layBy) (pc := 75) (v := 1) dX3_layBy_75 (by decide) ?_
        refine x_ldc2 (M := mX3_layBy) (pc := 76) dX3_layBy_76 q2948 ?_
        refine x_S3 (M := mX3_layBy) (pc := 79) (M' := mX3_in) q2949 kSX3_in dX3_layBy_79 (m_inN h (p_dig n i) 1 4 1 4 rfl rfl (by rw [← hdg]; omega) (by omega) (by omega) (d - 1)) (fun v_ h hq_ => ?_)
        obtain ⟨hv_, rfl⟩ := hq_
        cases hv_
        first | with_reducible refine x_ifB_eq (M := mX3_layBy) (pc := 82) 94 dX3_layBy_82 (by decide) (fun c3 => ?_) (fun c3 => ?_) | with_reducible refine x_if_eqN (M := mX3_layBy) (pc := 82) 94 dX3_layBy_82 (by decide) (by omega) (fun c3 => ?_) (fun c3 => ?_) | refine x_if_eq (M := mX3_layBy) (pc := 82) 94 dX3_layBy_82 (by decide) (fun c3 => ?_) (fun c3 => ?_)
        · refine x_iconst (M := mX3_layBy) (pc := 94) (v := nI 0) dX3_layBy_94 (by decide) ?_
          refine x_zret (M := mX3_layBy) (pc := 95) dX3_layBy_95 rfl (by first | with_reducible exact xz0 | with_reducible exact xz1 | with_reducible exact bI_01 _ | with_reducible assumption | assumption) (Nat.le_refl 0) (Nat.le_refl 0) ⟨_, _, _, _, rfl, ?_, hM, hF⟩
          have z := hfalse (by simp only [p_can, c3, Bool.false_and])
          exact ⟨vB0 z, hL, fun q => by rw [z] at q; cases q⟩
        · refine x_aload_n (M := mX3_layBy) (pc := 85) dX3_layBy_85 rfl ?_
          refine x_iload (M := mX3_layBy) (pc := 86) dX3_layBy_86 rfl ?_
          refine x_V1 (M := mX3_layBy) (pc := 88) (M' := mX3_mayFold) q2968 kVX3_mayFold dX3_layBy_88 (m_mayFold (d - 1) (p_dig n i) _ _ (by rw [← hdg]; omega) ⟨by omega, by omega⟩ hY.1 hY.2.1 h hM) (hM.is) (fun v_ h hq_ => ?_)
          obtain ⟨v_, I_, B_, wd_, hv_, hQ, hM_, hF_⟩ := hq_
          cases hv_
          replace hF := hF.tr hF_
          replace hM := hM_
          clear hM_ hF_
          obtain ⟨rfl, rfl, rfl, rfl⟩ := hQ
          first | with_reducible refine x_ifB_ne (M := mX3_layBy) (pc := 91) 96 dX3_layBy_91 (by decide) (fun c4 => ?_) (fun c4 => ?_) | with_reducible refine x_if_neN (M := mX3_layBy) (pc := 91) 96 dX3_layBy_91 (by decide) (by omega) (fun c4 => ?_) (fun c4 => ?_) | refine x_if_ne (M := mX3_layBy) (pc := 91) 96 dX3_layBy_91 (by decide) (fun c4 => ?_) (fun c4 => ?_)
          · have hcan : p_can (p_dig n i) (p_layn hi wi (p_dig n) i).1 (p_layn hi wi (p_dig n) i).2.1 = true := by rw [p_can, c3, c4]; rfl
            refine x_aload_n (M := mX3_layBy) (pc := 96) dX3_layBy_96 rfl ?_
            refine x_iload (M := mX3_layBy) (pc := 97) dX3_layBy_97 rfl ?_
            refine x_V1 (M := mX3_layBy) (pc := 99) (M' := mX3_foldBy) q2960 kVX3_foldBy dX3_layBy_99 (m_foldBy (d - 1) (p_dig n i) _ _ _ _ (p_layn_ok hok i hc).1 hcan hY (by omega) h hM) (hM.is) (fun v_ h hq_ => ?_)
            obtain ⟨v_, I_, B_, wd_, hv_, hQ, hM_, hF_⟩ := hq_
            cases hv_
            replace hF := hF.tr hF_
            replace hM := hM_
            clear hM_ hF_
            obtain ⟨rfl, hL2, hY2⟩ := hQ
            refine x_iload_n (M := mX3_layBy) (pc := 102) dX3_layBy_102 rfl ?_
            refine x_bipush (M := mX3_layBy) (pc := 103) (v := nI 10) dX3_layBy_103 (by decide) ?_
            first | with_reducible refine x_idivN (M := mX3_layBy) (pc := 105) dX3_layBy_105 (by omega) (by omega) (by omega) ?_ | refine x_idiv (M := mX3_layBy) (pc := 105) dX3_layBy_105 (by first | decide | assumption) ?_
            refine x_istore3 (M := mX3_layBy) (pc := 106) dX3_layBy_106 ?_
            refine x_goto (M := mX3_layBy) (pc := 107) 56 dX3_layBy_107 (by decide) ?_
            refine ih (i + 1) (by omega) (b / 10) (fun q => ?_) (fun q => ?_) (by rw [p_cans, hc, hcan]; rfl) h _ _ _ _ hM hF (hL.tr hL2) hY2
            · rw [hbb, show p_len n - 1 - i = (p_len n - 1 - (i + 1)) + 1 by omega, pow10_div]
            · rw [hbb, show p_len n - 1 - i = 0 by omega]
          · refine x_iconst (M := mX3_layBy) (pc := 94) (v := nI 0) dX3_layBy_94 (by decide) ?_
            refine x_zret (M := mX3_layBy) (pc := 95) dX3_layBy_95 rfl (by first | with_reducible exact xz0 | with_reducible exact xz1 | with_reducible exact bI_01 _ | with_reducible assumption | assumption) (Nat.le_refl 0) (Nat.le_refl 0) ⟨_, _, _, _, rfl, ?_, hM, hF⟩
            have z := hfalse (by simp only [p_can, c3, c4, Bool.and_false])
            exact ⟨vB0 z, hL, fun q => by rw [z] at q; cases q⟩
theorem m_layBy (d hi wi : Nat) (v : Int32) (hd : 2 ≤ d) (hok : p_ok hi wi 1 = true) (h00 : B 0 0 = nI hi) (h01 : B 0 1 = nI wi) : MC g l mX3_layBy d [.int v] m A I B wd (BYP I B wd hi wi v) := by
  intro h hM
  have hF : MF m A h h := MF.rf
  have hb := p_ok_b hok
  refine Ct.of [some (.ref m), some (.int v), none, none, none] (by decide +kernel) rfl (Nat.le_of_ble_eq_true rfl) rfl rfl ?_
  refine x_aload_n (M := mX3_layBy) (pc := 0) dX3_layBy_0 rfl ?_
  refine x_V0 (M := mX3_layBy) (pc := 1) (M' := mX3_layOpen) q2956 kVX3_layOpen dX3_layBy_1 (m_layOpen (d - 1) hi wi (by omega) h00 h01 h hM) (hM.is) (fun v_ h hq_ => ?_)
  obtain ⟨v_, I_, B_, wd_, hv_, hQ, hM_, hF_⟩ := hq_
  cases hv_
  replace hF := hF.tr hF_
  replace hM := hM_
  clear hM_ hF_
  obtain ⟨rfl, hL, hY⟩ := hQ
  refine x_iload_n (M := mX3_layBy) (pc := 4) dX3_layBy_4 rfl ?_
  refine x_if_lt (M := mX3_layBy) (pc := 5) 15 dX3_layBy_5 (by decide) (fun r_c1 => ?_) (fun r_c1 => ?_)
  · refine x_iconst (M := mX3_layBy) (pc := 15) (v := nI 0) dX3_layBy_15 (by decide) ?_
    refine x_zret (M := mX3_layBy) (pc := 16) dX3_layBy_16 rfl (by first | with_reducible exact xz0 | with_reducible exact xz1 | with_reducible exact bI_01 _ | with_reducible assumption | assumption) (Nat.le_refl 0) (Nat.le_refl 0) ⟨_, _, _, _, rfl, ?_, hM, hF⟩
    have z : p_isRowI hi wi v = false := by simp only [p_isRowI, decide_eq_false (show ¬ 0 ≤ v by rw [Int32.not_le]; exact r_c1), Bool.false_and]
    exact ⟨vB0 z, hL, fun q => by rw [z] at q; cases q⟩
  · obtain ⟨n, hn, rfl⟩ := nI_of r_c1
    refine x_iload_n (M := mX3_layBy) (pc := 8) dX3_layBy_8 rfl ?_
    refine x_sipush (M := mX3_layBy) (pc := 9) (v := nI 9999) dX3_layBy_9 (by decide) ?_
    first | with_reducible refine x_icmp_leN (M := mX3_layBy) (pc := 12) 17 dX3_layBy_12 (by decide) (by omega) (by omega) (fun c2 => ?_) (fun c2 => ?_) | refine x_icmp_le (M := mX3_layBy) (pc := 12) 17 dX3_layBy_12 (by decide) (fun c2 => ?_) (fun c2 => ?_)
    · refine x_joinV 53 (nI (10 ^ (p_len n - 1))) (fun J => ?_) ?_
      · refine x_iload_n (M := mX3_layBy) (pc := 17) dX3_layBy_17 rfl ?_
        refine x_sipush (M := mX3_layBy) (pc := 18) (v := nI 999) dX3_layBy_18 (by decide) ?_
        first | with_reducible refine x_icmp_leN (M := mX3_layBy) (pc := 21) 30 dX3_layBy_21 (by decide) (by omega) (by omega) (fun c21 => ?_) (fun c21 => ?_) | refine x_icmp_le (M := mX3_layBy) (pc := 21) 30 dX3_layBy_21 (by decide) (fun c21 => ?_) (fun c21 => ?_)
        · refine x_iload_n (M := mX3_layBy) (pc := 30) dX3_layBy_30 rfl ?_
          refine x_bipush (M := mX3_layBy) (pc := 31) (v := nI 99) dX3_layBy_31 (by decide) ?_
          first | with_reducible refine x_icmp_leN (M := mX3_layBy) (pc := 33) 41 dX3_layBy_33 (by decide) (by omega) (by omega) (fun c33 => ?_) (fun c33 => ?_) | refine x_icmp_le (M := mX3_layBy) (pc := 33) 41 dX3_layBy_33 (by decide) (fun c33 => ?_) (fun c33 => ?_)
          · refine x_iload_n (M := mX3_layBy) (pc := 41) dX3_layBy_41 rfl ?_
            refine x_bipush (M := mX3_layBy) (pc := 42) (v := nI 9) dX3_layBy_42 (by decide) ?_
            first | with_reducible refine x_icmp_leN (M := mX3_layBy) (pc := 44) 52 dX3_layBy_44 (by decide) (by omega) (by omega) (fun c44 => ?_) (fun c44 => ?_) | refine x_icmp_le (M := mX3_layBy) (pc := 44) 52 dX3_layBy_44 (by decide) (fun c44 => ?_) (fun c44 => ?_)
            · refine x_iconst (M := mX3_layBy) (pc := 52) (v := nI 1) dX3_layBy_52 (by decide) ?_
              exact J _ (congrArg nI (by first | exact p_unit4 (by omega) | exact p_unit3 (by omega) (by omega) | exact p_unit2 (by omega) (by omega) | exact p_unit1 (by omega)))
            · refine x_bipush (M := mX3_layBy) (pc := 47) (v := nI 10) dX3_layBy_47 (by decide) ?_
              refine x_goto (M := mX3_layBy) (pc := 49) 53 dX3_layBy_49 (by decide) ?_
              exact J _ (congrArg nI (by first | exact p_unit4 (by omega) | exact p_unit3 (by omega) (by omega) | exact p_unit2 (by omega) (by omega) | exact p_unit1 (by omega)))
          · refine x_bipush (M := mX3_layBy) (pc := 36) (v := nI 100) dX3_layBy_36 (by decide) ?_
            refine x_goto (M := mX3_layBy) (pc := 38) 53 dX3_layBy_38 (by decide) ?_
            exact J _ (congrArg nI (by first | exact p_unit4 (by omega) | exact p_unit3 (by omega) (by omega) | exact p_unit2 (by omega) (by omega) | exact p_unit1 (by omega)))
        · refine x_sipush (M := mX3_layBy) (pc := 24) (v := nI 1000) dX3_layBy_24 (by decide) ?_
          refine x_goto (M := mX3_layBy) (pc := 27) 53 dX3_layBy_27 (by decide) ?_
          exact J _ (congrArg nI (by first | exact p_unit4 (by omega) | exact p_unit3 (by omega) (by omega) | exact p_unit2 (by omega) (by omega) | exact p_unit1 (by omega)))
      refine x_istore2 (M := mX3_layBy) (pc := 53) dX3_layBy_53 ?_
      refine x_iload_n (M := mX3_layBy) (pc := 54) dX3_layBy_54 rfl ?_
      refine x_istore3 (M := mX3_layBy) (pc := 55) dX3_layBy_55 ?_
      skip
      rcases Nat.eq_zero_or_pos n with e0 | e0
      · subst e0
        refine x_iload_n (M := mX3_layBy) (pc := 56) dX3_layBy_56 rfl ?_
        first | with_reducible refine x_if_leN (M := mX3_layBy) (pc := 57) 110 dX3_layBy_57 (by decide) (by omega) (fun c3 => ?_) (fun c3 => ?_) | refine x_if_le (M := mX3_layBy) (pc := 57) 110 dX3_layBy_57 (by decide) (fun c3 => ?_) (fun c3 => ?_)
        · refine x_aload_n (M := mX3_layBy) (pc := 110) dX3_layBy_110 rfl ?_
          refine x_get (M := mX3_layBy) (pc := 111) kcX3 9 rfl q2844 dX3_layBy_111 hM.1 rfl ?_
          refine x_val (M := mX3_layBy) (pc := 114) (hY.2.2.1) ?_
          refine x_aload_n (M := mX3_layBy) (pc := 114) dX3_layBy_114 rfl ?_
          refine x_V0 (M := mX3_layBy) (pc := 115) (M' := mX3_cells) q3006 kVX3_cells dX3_layBy_115 (m_cells (d - 1) h hM) (hM.is) (fun v_ h hq_ => ?_)
          obtain ⟨v_, I_, B_, wd_, hv_, hQ, hM_, hF_⟩ := hq_
          cases hv_
          replace hF := hF.tr hF_
          replace hM := hM_
          clear hM_ hF_
          obtain ⟨rfl, rfl, rfl, rfl⟩ := hQ
          refine x_val (M := mX3_layBy) (pc := 118) (show _ = nI (hi * wi) by rw [hL.2.1 0 (by omega), h00, h01, pk_mul]) ?_
          first | with_reducible refine x_icmp_neN (M := mX3_layBy) (pc := 118) 125 dX3_layBy_118 (by decide) (by omega) (by omega) (fun c118 => ?_) (fun c118 => ?_) | refine x_icmp_ne (M := mX3_layBy) (pc := 118) 125 dX3_layBy_118 (by decide) (fun c118 => ?_) (fun c118 => ?_)
          · refine x_iconst (M := mX3_layBy) (pc := 125) (v := nI 0) dX3_layBy_125 (by decide) ?_
            refine x_zret (M := mX3_layBy) (pc := 126) dX3_layBy_126 rfl (by first | with_reducible exact xz0 | with_reducible exact xz1 | with_reducible exact bI_01 _ | with_reducible assumption | assumption) (Nat.le_refl 0) (Nat.le_refl 0) ⟨_, _, _, _, rfl, ?_, hM, hF⟩
            refine ⟨?_, hL, fun _ => hY⟩; rw [p_isRowI_n _ _ _ (by omega)]; first | exact vB1 (by simp [p_isRow, p_len, p_cans, *]) | exact vB0 (by simp [p_isRow, p_len, p_cans, *])
          · refine x_iconst (M := mX3_layBy) (pc := 121) (v := nI 1) dX3_layBy_121 (by decide) ?_
            refine x_goto (M := mX3_layBy) (pc := 122) 126 dX3_layBy_122 (by decide) ?_
            refine x_zret (M := mX3_layBy) (pc := 126) dX3_layBy_126 rfl (by first | with_reducible exact xz0 | with_reducible exact xz1 | with_reducible exact bI_01 _ | with_reducible assumption | assumption) (Nat.le_refl 0) (Nat.le_refl 0) ⟨_, _, _, _, rfl, ?_, hM, hF⟩
            refine ⟨?_, hL, fun _ => hY⟩; rw [p_isRowI_n _ _ _ (by omega)]; first | exact vB1 (by simp [p_isRow, p_len, p_cans, *]) | exact vB0 (by simp [p_isRow, p_len, p_cans, *])
        · omega
      · refine m_layBy_l d hi wi n c2 e0 hd hok I B wd h00 h01 _ _ (p_len n) 0 (Nat.zero_add _) _ (fun _ => rfl) (fun q => ?_) rfl h _ _ _ _ hM hF hL hY
        exfalso
        unfold p_len at q
        rw [if_neg (by omega)] at q
        revert q
        repeat' split
        all_goals omega
    · refine x_iconst (M := mX3_layBy) (pc := 15) (v := nI 0) dX3_layBy_15 (by decide) ?_
      refine x_zret (M := mX3_layBy) (pc := 16) dX3_layBy_16 rfl (by first | with_reducible exact xz0 | with_reducible exact xz1 | with_reducible exact bI_01 _ | with_reducible assumption | assumption) (Nat.le_refl 0) (Nat.le_refl 0) ⟨_, _, _, _, rfl, ?_, hM, hF⟩
      have z : p_isRowI hi wi (nI n) = false := by rw [p_isRowI_n _ _ _ hn, p_isRow, decide_eq_false (by omega)]; rfl
      exact ⟨vB0 z, hL, fun q => by rw [z] at q; cases q⟩
end MODEL6

section MODELN
set_option maxRecDepth 100000
def q_pgT (s : Row) (pg : Nat) : Nat → Int32
  | 0 => nI (p_sd (zLy s) pg / 2 / zWi s) | 1 => nI (p_sd (zLy s) pg / 2 % zWi s) | 2 => nI (p_sd (zLy s) pg % 2) | 3 => zNone (s (90 + p_sd (zLy s) pg))
  | 4 => if s (90 + p_sd (zLy s) pg) < 0 then -9 else bI (p_tn (zLy s) (zN s 7) pg == zTu s (p_sd (zLy s) pg)) | 5 => bI (zHid s pg) | 6 => bI (!zHid s pg && zOwn s (zLy s) pg) | _ => nI (zLines s pg (zOm s * zN s 11))
def q_page (s : Row) (p w : Int32) : Int32 := if zBook s = false then -2 else if (bIn p 0 (nI (2 * zN16 s) - 1) && bIn w 0 7) = false then -1 else q_pgT s p.toNatClampNeg w.toNatClampNeg
variable {g : xG} {l : Launch} {m : Nat} {A : Nat → Nat} {I : Nat → Int32} {B : Nat → Nat → Int32} {wd : Int64}
theorem m_page (d : Nat) (hd : 6 ≤ d) (hW : WF (B 0)) (x y : Int32) : MC g l mX3_page d [.int x, .int y] m A I B wd (QF I B (q_page (B 0) x y)) := by
  intro h hM
  have hF : MF m A h h := MF.rf
  refine Ct.of [some (.ref m), some (.int x), some (.int y), none, none] (by decide +kernel) rfl (Nat.le_of_ble_eq_true rfl) rfl rfl ?_
  refine x_aload_n (M := mX3_page) (pc := 0) dX3_page_0 rfl ?_
  refine x_V0 (M := mX3_page) (pc := 1) (M' := mX3_isBooklet) q3023 kVX3_isBooklet dX3_page_1 (m_isBooklet (d - 1) _ _ _ _ (by omega) hW.1 h hM) (hM.is) (fun v_ h hq_ => ?_)
  obtain ⟨v_, I_, B_, wd_, hv_, hQ, hM_, hF_⟩ := hq_
  cases hv_
  replace hF := hF.tr hF_
  replace hM := hM_
  clear hM_ hF_
  obtain ⟨rfl, hL, hY⟩ := hQ
  first | with_reducible refine x_ifB_ne (M := mX3_page) (pc := 4) 10 dX3_page_4 (by decide) (fun c4 => ?_) (fun c4 => ?_) | with_reducible refine x_if_neN (M := mX3_page) (pc := 4) 10 dX3_page_4 (by decide) (by omega) (fun c4 => ?_) (fun c4 => ?_) | refine x_if_ne (M := mX3_page) (pc := 4) 10 dX3_page_4 (by decide) (fun c4 => ?_) (fun c4 => ?_)
  rotate_left
  · refine x_bipush (M := mX3_page) (pc := 7) (v := (-2)) dX3_page_7 (by decide) ?_
    refine x_iret (M := mX3_page) (pc := 9) dX3_page_9 rfl (Nat.le_refl 0) (Nat.le_refl 0) ⟨_, _, _, _, rfl, ?_, hM, hF⟩
    exact QF.lf (by rw [q_page, if_pos (show zBook (B 0) = false from c4)]) hL
  skip
  have hB := BW_now rfl hW c4 hL hY
  have b2 := hB.1.2.2.2.2.1
  have b1 := hB.1.2.2.2.1
  have hB0 := hB.2
  have hbt : ¬ zBook (B 0) = false := by rw [show zBook (B 0) = true from c4]; decide
  refine x_iload_n (M := mX3_page) (pc := 10) dX3_page_10 rfl ?_
  refine x_i2l (M := mX3_page) (pc := 11) dX3_page_11 ?_
  refine x_lconst (M := mX3_page) (pc := 12) (v := 0) dX3_page_12 (by decide) ?_
  refine x_iconst (M := mX3_page) (pc := 13) (v := nI 2) dX3_page_13 (by decide) ?_
  refine x_aload_n (M := mX3_page) (pc := 14) dX3_page_14 rfl ?_
  refine x_get (M := mX3_page) (pc := 15) kcX3 9 rfl q2844 dX3_page_15 hM.1 rfl ?_
  refine x_val (M := mX3_page) (pc := 18) (hB.1.1) ?_
  first | with_reducible refine x_imulN (M := mX3_page) (pc := 18) dX3_page_18 ?_ | refine x_imul (M := mX3_page) (pc := 18) dX3_page_18 ?_
  refine x_iconst (M := mX3_page) (pc := 19) (v := nI 1) dX3_page_19 (by decide) ?_
  first | with_reducible refine x_isubN (M := mX3_page) (pc := 20) dX3_page_20 (by fail) ?_ | refine x_isub (M := mX3_page) (pc := 20) dX3_page_20 ?_
  refine x_i2l (M := mX3_page) (pc := 21) dX3_page_21 ?_
  refine x_S3 (M := mX3_page) (pc := 22) (M' := mX3_in) q2949 kSX3_in dX3_page_22 (m_inB h x 0 (nI (2 * zN16 (B 0)) - 1) 0 _ (by decide) rfl (d - 1)) (fun v_ h hq_ => ?_)
  obtain ⟨hv_, rfl⟩ := hq_; cases hv_
  first | with_reducible refine x_ifB_eq (M := mX3_page) (pc := 25) 40 dX3_page_25 (by decide) (fun c25 => ?_) (fun c25 => ?_) | with_reducible refine x_if_eqN (M := mX3_page) (pc := 25) 40 dX3_page_25 (by decide) (by omega) (fun c25 => ?_) (fun c25 => ?_) | refine x_if_eq (M := mX3_page) (pc := 25) 40 dX3_page_25 (by decide) (fun c25 => ?_) (fun c25 => ?_)
  · refine x_iconst (M := mX3_page) (pc := 40) (v := (-1)) dX3_page_40 (by decide) ?_
    refine x_iret (M := mX3_page) (pc := 41) dX3_page_41 rfl (Nat.le_refl 0) (Nat.le_refl 0) ⟨_, _, _, _, rfl, ?_, hM, hF⟩
    exact QF.lf (by rw [q_page, if_neg hbt, if_pos (by first | (rw [c25]; rfl) | (rw [c37, Bool.and_false]))]) hL
  refine x_iload_n (M := mX3_page) (pc := 28) dX3_page_28 rfl ?_
  refine x_i2l (M := mX3_page) (pc := 29) dX3_page_29 ?_
  refine x_lconst (M := mX3_page) (pc := 30) (v := 0) dX3_page_30 (by decide) ?_
  refine x_ldc2 (M := mX3_page) (pc := 31) dX3_page_31 q3196 ?_
  refine x_S3 (M := mX3_page) (pc := 34) (M' := mX3_in) q2949 kSX3_in dX3_page_34 (m_inB h y 0 7 0 7 (by decide) (by decide) (d - 1)) (fun v_ h hq_ => ?_)
  obtain ⟨hv_, rfl⟩ := hq_; cases hv_
  first | with_reducible refine x_ifB_ne (M := mX3_page) (pc := 37) 42 dX3_page_37 (by decide) (fun c37 => ?_) (fun c37 => ?_) | with_reducible refine x_if_neN (M := mX3_page) (pc := 37) 42 dX3_page_37 (by decide) (by omega) (fun c37 => ?_) (fun c37 => ?_) | refine x_if_ne (M := mX3_page) (pc := 37) 42 dX3_page_37 (by decide) (fun c37 => ?_) (fun c37 => ?_)
  rotate_left
  · refine x_iconst (M := mX3_page) (pc := 40) (v := (-1)) dX3_page_40 (by decide) ?_
    refine x_iret (M := mX3_page) (pc := 41) dX3_page_41 rfl (Nat.le_refl 0) (Nat.le_refl 0) ⟨_, _, _, _, rfl, ?_, hM, hF⟩
    exact QF.lf (by rw [q_page, if_neg hbt, if_pos (by first | (rw [c25]; rfl) | (rw [c37, Bool.and_false]))]) hL
  skip
  obtain ⟨pg, rfl, hpg⟩ := bIn_m1 (by omega) (by omega) c25
  obtain ⟨w, rfl, -, hw⟩ := bIn_n (a := 0) (b := 7) (by omega) (by omega) c37
  have hq : q_page (B 0) (nI pg) (nI w) = q_pgT (B 0) pg w := by
    unfold q_page
    rw [if_neg hbt, if_neg (show ¬ (bIn (nI pg) 0 (nI (2 * zN16 (B 0)) - 1) && bIn (nI w) 0 7) = false by rw [c25, c37]; decide), nI_clamp (by omega), nI_clamp (by omega)]
  have hl3 := (hB.1.2.2.1 (pg / 2) (by omega)).2
  have hsd : p_sd (zLy (B 0)) pg < 32 := by
    unfold p_sd; have := Bool.toNat_le (p_side (zLy (B 0) (pg / 2)) != decide (pg % 2 = 1)); omega
  have hwi := hB.1.2.2.2.2.2
  have hs7 : B_ 0 7 = nI (zN (B 0) 7) := by rw [hB.2]; exact hW.2.1.1
  have hs8 : B_ 0 8 = nI (zN (B 0) 8) := by rw [hB.2]; exact hW.2.2.1.1
  have hw1 : B_ 0 1 = nI (zWi (B 0)) := by rw [hB0]; exact hW.1.2.1
  have hp1 : B_ 0 (90 + p_sd (zLy (B 0)) pg) = B 0 (90 + p_sd (zLy (B 0)) pg) := by rw [hB0]
  have htu : ∀ k, k < 32 → B_ 0 (122 + k) = bI (zTu (B 0) k) := by rw [hB0]; exact fun k hk => (hW.2.2.2.2.2.2.2.2.2.2 k hk).2
  have hz : decide (p_shut (zN (B 0) 8) (p_se (zN (B 0) 7)) (zWi (B 0)) (zLy (B 0)) (zN16 (B 0)) ((pg + 1) / 2) ≠ 0) = zHid (B 0) pg := rfl
  have hzo : (decide (B_ 0 (90 + p_sd (zLy (B 0)) pg) = nI pg) && (p_tn (zLy (B 0)) (zN (B 0) 7) pg == zTu (B 0) (p_sd (zLy (B 0)) pg))) = zOwn (B 0) (zLy (B 0)) pg := by rw [hB0]; rfl
  have cHid := m_isHidden (g := g) (l := l) (m := m) (A := A) (wd := wd_) (d - 1) _ _ (zLy (B 0)) hB.1 (zN (B 0) 7) hs7 hW.2.1.2 (zN (B 0) 8) hs8 hW.2.2.1.2 pg hpg (by omega)
  rw [hz] at cHid
  have cOwn := m_isItsOwn (g := g) (l := l) (m := m) (A := A) (wd := wd_) (d - 1) _ _ (zLy (B 0)) hB.1 (zN (B 0) 7) hs7 hW.2.1.2 (zTu (B 0)) htu pg hpg (by omega)
  rw [hzo] at cOwn
  refine x_aload_n (M := mX3_page) (pc := 42) dX3_page_42 rfl ?_
  refine x_iload_n (M := mX3_page) (pc := 43) dX3_page_43 rfl ?_
  refine x_V1 (M := mX3_page) (pc := 44) (M' := mX3_sideOf) q3010 kVX3_sideOf dX3_page_44 (m_sideOf (d - 1) _ _ (zLy (B 0)) hB.1 pg hpg h hM) (hM.is) (fun v_ h hq_ => ?_)
  obtain ⟨hv_, rfl⟩ := hq_; cases hv_
  refine x_istore3 (M := mX3_page) (pc := 47) dX3_page_47 ?_
  refine x_joinB 65 (decide (B 0 (90 + p_sd (zLy (B 0)) pg) < 0)) (fun J => ?_) ?_
  · refine x_aload_n (M := mX3_page) (pc := 48) dX3_page_48 rfl ?_
    refine x_get (M := mX3_page) (pc := 49) kcX3 0 rfl q2835 dX3_page_49 hM.1 rfl ?_
    refine x_bipush (M := mX3_page) (pc := 52) (v := nI 90) dX3_page_52 (by decide) ?_
    refine x_iload_n (M := mX3_page) (pc := 54) dX3_page_54 rfl ?_
    first | with_reducible refine x_iaddN (M := mX3_page) (pc := 55) dX3_page_55 ?_ | refine x_iadd (M := mX3_page) (pc := 55) dX3_page_55 ?_
    refine xm_ialdV (M := mX3_page) (pc := 56) hM dX3_page_56 (hp1) (by decide) (by first | decide | (simp only [mSz] <;> omega)) ?_
    refine x_if_ge (M := mX3_page) (pc := 57) 64 dX3_page_57 (by decide) (fun r_1 => ?_) (fun r_1 => ?_)
    · refine x_iconst (M := mX3_page) (pc := 64) (v := nI 0) dX3_page_64 (by decide) ?_
      first | exact J false (by rw [decide_eq_false (Int32.not_lt.mpr r_1)]) | exact J true (by rw [decide_eq_true (Int32.not_le.mp r_1)])
    · refine x_iconst (M := mX3_page) (pc := 60) (v := nI 1) dX3_page_60 (by decide) ?_
      refine x_goto (M := mX3_page) (pc := 61) 65 dX3_page_61 (by decide) ?_
      first | exact J false (by rw [decide_eq_false (Int32.not_lt.mpr r_1)]) | exact J true (by rw [decide_eq_true (Int32.not_le.mp r_1)])
  refine x_istore4 (M := mX3_page) (pc := 65) dX3_page_65 ?_
  refine x_iload_n (M := mX3_page) (pc := 67) dX3_page_67 rfl ?_
  skip
  rcases (show w = 0 ∨ w = 1 ∨ w = 2 ∨ w = 3 ∨ w = 4 ∨ w = 5 ∨ w = 6 ∨ w = 7 by omega) with rfl | rfl | rfl | rfl | rfl | rfl | rfl | rfl
  · refine x_tableIn (M := mX3_page) (pc := 68) (off := 44) 112 dX3_page_68 (by decide) (by decide) rfl (by decide) ?_
    refine x_iload_n (M := mX3_page) (pc := 112) dX3_page_112 rfl ?_
    refine x_iconst (M := mX3_page) (pc := 113) (v := nI 2) dX3_page_113 (by decide) ?_
    first | with_reducible refine x_idivN (M := mX3_page) (pc := 114) dX3_page_114 (by omega) (by omega) (by omega) ?_ | refine x_idiv (M := mX3_page) (pc := 114) dX3_page_114 (by first | decide | assumption) ?_
    refine x_aload_n (M := mX3_page) (pc := 115) dX3_page_115 rfl ?_
    refine x_get (M := mX3_page) (pc := 116) kcX3 0 rfl q2835 dX3_page_116 hM.1 rfl ?_
    refine x_iconst (M := mX3_page) (pc := 119) (v := nI 1) dX3_page_119 (by decide) ?_
    refine xm_ialdV (M := mX3_page) (pc := 120) hM dX3_page_120 (hw1) (by decide) (by first | decide | (simp only [mSz] <;> omega)) ?_
    first | with_reducible refine x_idivN (M := mX3_page) (pc := 121) dX3_page_121 (by omega) (by omega) (by omega) ?_ | refine x_idiv (M := mX3_page) (pc := 121) dX3_page_121 (by first | decide | assumption) ?_
    refine x_iret (M := mX3_page) (pc := 122) dX3_page_122 rfl (Nat.le_refl 0) (Nat.le_refl 0) ⟨_, _, _, _, rfl, ?_, hM, hF⟩
    exact QF.lf (by rw [hq]; rfl) hL
  · refine x_tableIn (M := mX3_page) (pc := 68) (off := 55) 123 dX3_page_68 (by decide) (by decide) rfl (by decide) ?_
    refine x_iload_n (M := mX3_page) (pc := 123) dX3_page_123 rfl ?_
    refine x_iconst (M := mX3_page) (pc := 124) (v := nI 2) dX3_page_124 (by decide) ?_
    first | with_reducible refine x_idivN (M := mX3_page) (pc := 125) dX3_page_125 (by omega) (by omega) (by omega) ?_ | refine x_idiv (M := mX3_page) (pc := 125) dX3_page_125 (by first | decide | assumption) ?_
    refine x_aload_n (M := mX3_page) (pc := 126) dX3_page_126 rfl ?_
    refine x_get (M := mX3_page) (pc := 127) kcX3 0 rfl q2835 dX3_page_127 hM.1 rfl ?_
    refine x_iconst (M := mX3_page) (pc := 130) (v := nI 1) dX3_page_130 (by decide) ?_
    refine xm_ialdV (M := mX3_page) (pc := 131) hM dX3_page_131 (hw1) (by decide) (by first | decide | (simp only [mSz] <;> omega)) ?_
    first | with_reducible refine x_iremN (M := mX3_page) (pc := 132) dX3_page_132 (by omega) (by omega) (by omega) ?_ | refine x_irem (M := mX3_page) (pc := 132) dX3_page_132 (by first | decide | assumption) ?_
    refine x_iret (M := mX3_page) (pc := 133) dX3_page_133 rfl (Nat.le_refl 0) (Nat.le_refl 0) ⟨_, _, _, _, rfl, ?_, hM, hF⟩
    exact QF.lf (by rw [hq]; rfl) hL
  · refine x_tableIn (M := mX3_page) (pc := 68) (off := 66) 134 dX3_page_68 (by decide) (by decide) rfl (by decide) ?_
    refine x_iload_n (M := mX3_page) (pc := 134) dX3_page_134 rfl ?_
    refine x_iconst (M := mX3_page) (pc := 135) (v := nI 2) dX3_page_135 (by decide) ?_
    first | with_reducible refine x_iremN (M := mX3_page) (pc := 136) dX3_page_136 (by omega) (by omega) (by omega) ?_ | refine x_irem (M := mX3_page) (pc := 136) dX3_page_136 (by first | decide | assumption) ?_
    refine x_iret (M := mX3_page) (pc := 137) dX3_page_137 rfl (Nat.le_refl 0) (Nat.le_refl 0) ⟨_, _, _, _, rfl, ?_, hM, hF⟩
    exact QF.lf (by rw [hq]; rfl) hL
  · refine x_tableIn (M := mX3_page) (pc := 68) (off := 70) 138 dX3_page_68 (by decide) (by decide) rfl (by decide) ?_
    refine x_iload (M := mX3_page) (pc := 138) dX3_page_138 rfl ?_
    first | with_reducible refine x_ifB_eq (M := mX3_page) (pc := 140) 148 dX3_page_140 (by decide) (fun c140 => ?_) (fun c140 => ?_) | with_reducible refine x_if_eqN (M := mX3_page) (pc := 140) 148 dX3_page_140 (by decide) (by omega) (fun c140 => ?_) (fun c140 => ?_) | refine x_if_eq (M := mX3_page) (pc := 140) 148 dX3_page_140 (by decide) (fun c140 => ?_) (fun c140 => ?_)
    · refine x_aload_n (M := mX3_page) (pc := 148) dX3_page_148 rfl ?_
      refine x_get (M := mX3_page) (pc := 149) kcX3 0 rfl q2835 dX3_page_149 hM.1 rfl ?_
      refine x_bipush (M := mX3_page) (pc := 152) (v := nI 90) dX3_page_152 (by decide) ?_
      refine x_iload_n (M := mX3_page) (pc := 154) dX3_page_154 rfl ?_
      first | with_reducible refine x_iaddN (M := mX3_page) (pc := 155) dX3_page_155 ?_ | refine x_iadd (M := mX3_page) (pc := 155) dX3_page_155 ?_
      refine xm_ialdV (M := mX3_page) (pc := 156) hM dX3_page_156 (hp1) (by decide) (by first | decide | (simp only [mSz] <;> omega)) ?_
      refine x_iret (M := mX3_page) (pc := 157) dX3_page_157 rfl (Nat.le_refl 0) (Nat.le_refl 0) ⟨_, _, _, _, rfl, ?_, hM, hF⟩
      refine QF.lf ?_ hL; rw [hq]; show _ = some (Value.int (zNone _)); first | rw [zNone, if_pos (of_decide_eq_true c140)] | rw [zNone, if_neg (of_decide_eq_false c140)]
    · refine x_bipush (M := mX3_page) (pc := 143) (v := (-9)) dX3_page_143 (by decide) ?_
      refine x_goto (M := mX3_page) (pc := 145) 157 dX3_page_145 (by decide) ?_
      refine x_iret (M := mX3_page) (pc := 157) dX3_page_157 rfl (Nat.le_refl 0) (Nat.le_refl 0) ⟨_, _, _, _, rfl, ?_, hM, hF⟩
      refine QF.lf ?_ hL; rw [hq]; show _ = some (Value.int (zNone _)); first | rw [zNone, if_pos (of_decide_eq_true c140)] | rw [zNone, if_neg (of_decide_eq_false c140)]
  · refine x_tableIn (M := mX3_page) (pc := 68) (off := 90) 158 dX3_page_68 (by decide) (by decide) rfl (by decide) ?_
    refine x_iload (M := mX3_page) (pc := 158) dX3_page_158 rfl ?_
    first | with_reducible refine x_ifB_eq (M := mX3_page) (pc := 160) 168 dX3_page_160 (by decide) (fun c160 => ?_) (fun c160 => ?_) | with_reducible refine x_if_eqN (M := mX3_page) (pc := 160) 168 dX3_page_160 (by decide) (by omega) (fun c160 => ?_) (fun c160 => ?_) | refine x_if_eq (M := mX3_page) (pc := 160) 168 dX3_page_160 (by decide) (fun c160 => ?_) (fun c160 => ?_)
    · refine x_aload_n (M := mX3_page) (pc := 168) dX3_page_168 rfl ?_
      refine x_iload_n (M := mX3_page) (pc := 169) dX3_page_169 rfl ?_
      refine x_V1 (M := mX3_page) (pc := 170) (M' := mX3_isUpright) q3197 kVX3_isUpright dX3_page_170 (m_isUpright (d - 1) _ _ (zLy (B 0)) hB.1 (zN (B 0) 7) hs7 hW.2.1.2 (zTu (B 0)) htu pg hpg (by omega) h hM) (hM.is) (fun v_ h hq_ => ?_)
      obtain ⟨hv_, rfl⟩ := hq_; cases hv_
      first | with_reducible refine x_ifB_eq (M := mX3_page) (pc := 173) 180 dX3_page_173 (by decide) (fun c173 => ?_) (fun c173 => ?_) | with_reducible refine x_if_eqN (M := mX3_page) (pc := 173) 180 dX3_page_173 (by decide) (by omega) (fun c173 => ?_) (fun c173 => ?_) | refine x_if_eq (M := mX3_page) (pc := 173) 180 dX3_page_173 (by decide) (fun c173 => ?_) (fun c173 => ?_)
      · refine x_iconst (M := mX3_page) (pc := 180) (v := nI 0) dX3_page_180 (by decide) ?_
        refine x_iret (M := mX3_page) (pc := 181) dX3_page_181 rfl (Nat.le_refl 0) (Nat.le_refl 0) ⟨_, _, _, _, rfl, ?_, hM, hF⟩
        refine QF.lf ?_ hL; rw [hq]; show _ = some (Value.int (if _ then _ else _)); first | rw [if_pos (of_decide_eq_true c160)] | (rw [if_neg (of_decide_eq_false c160), c173]; rfl)
      · refine x_iconst (M := mX3_page) (pc := 176) (v := nI 1) dX3_page_176 (by decide) ?_
        refine x_goto (M := mX3_page) (pc := 177) 181 dX3_page_177 (by decide) ?_
        refine x_iret (M := mX3_page) (pc := 181) dX3_page_181 rfl (Nat.le_refl 0) (Nat.le_refl 0) ⟨_, _, _, _, rfl, ?_, hM, hF⟩
        refine QF.lf ?_ hL; rw [hq]; show _ = some (Value.int (if _ then _ else _)); first | rw [if_pos (of_decide_eq_true c160)] | (rw [if_neg (of_decide_eq_false c160), c173]; rfl)
    · refine x_bipush (M := mX3_page) (pc := 163) (v := (-9)) dX3_page_163 (by decide) ?_
      refine x_goto (M := mX3_page) (pc := 165) 181 dX3_page_165 (by decide) ?_
      refine x_iret (M := mX3_page) (pc := 181) dX3_page_181 rfl (Nat.le_refl 0) (Nat.le_refl 0) ⟨_, _, _, _, rfl, ?_, hM, hF⟩
      refine QF.lf ?_ hL; rw [hq]; show _ = some (Value.int (if _ then _ else _)); first | rw [if_pos (of_decide_eq_true c160)] | (rw [if_neg (of_decide_eq_false c160), c173]; rfl)
  · refine x_tableIn (M := mX3_page) (pc := 68) (off := 114) 182 dX3_page_68 (by decide) (by decide) rfl (by decide) ?_
    refine x_aload_n (M := mX3_page) (pc := 182) dX3_page_182 rfl ?_
    refine x_iload_n (M := mX3_page) (pc := 183) dX3_page_183 rfl ?_
    refine x_V1 (M := mX3_page) (pc := 184) (M' := mX3_isHidden) q3201 kVX3_isHidden dX3_page_184 (cHid h hM) (hM.is) (fun v_ h hq_ => ?_)
    obtain ⟨hv_, rfl⟩ := hq_; cases hv_
    first | with_reducible refine x_ifB_eq (M := mX3_page) (pc := 187) 194 dX3_page_187 (by decide) (fun c187 => ?_) (fun c187 => ?_) | with_reducible refine x_if_eqN (M := mX3_page) (pc := 187) 194 dX3_page_187 (by decide) (by omega) (fun c187 => ?_) (fun c187 => ?_) | refine x_if_eq (M := mX3_page) (pc := 187) 194 dX3_page_187 (by decide) (fun c187 => ?_) (fun c187 => ?_)
    · refine x_iconst (M := mX3_page) (pc := 194) (v := nI 0) dX3_page_194 (by decide) ?_
      refine x_iret (M := mX3_page) (pc := 195) dX3_page_195 rfl (Nat.le_refl 0) (Nat.le_refl 0) ⟨_, _, _, _, rfl, ?_, hM, hF⟩
      refine QF.lf ?_ hL; rw [hq]; show _ = some (Value.int (bI (zHid (B 0) pg))); rw [c187]; rfl
    · refine x_iconst (M := mX3_page) (pc := 190) (v := nI 1) dX3_page_190 (by decide) ?_
      refine x_goto (M := mX3_page) (pc := 191) 195 dX3_page_191 (by decide) ?_
      refine x_iret (M := mX3_page) (pc := 195) dX3_page_195 rfl (Nat.le_refl 0) (Nat.le_refl 0) ⟨_, _, _, _, rfl, ?_, hM, hF⟩
      refine QF.lf ?_ hL; rw [hq]; show _ = some (Value.int (bI (zHid (B 0) pg))); rw [c187]; rfl
  · refine x_tableIn (M := mX3_page) (pc := 68) (off := 128) 196 dX3_page_68 (by decide) (by decide) rfl (by decide) ?_
    refine x_aload_n (M := mX3_page) (pc := 196) dX3_page_196 rfl ?_
    refine x_iload_n (M := mX3_page) (pc := 197) dX3_page_197 rfl ?_
    refine x_V1 (M := mX3_page) (pc := 198) (M' := mX3_isHidden) q3201 kVX3_isHidden dX3_page_198 (cHid h hM) (hM.is) (fun v_ h hq_ => ?_)
    obtain ⟨hv_, rfl⟩ := hq_; cases hv_
    first | with_reducible refine x_ifB_ne (M := mX3_page) (pc := 201) 216 dX3_page_201 (by decide) (fun c201 => ?_) (fun c201 => ?_) | with_reducible refine x_if_neN (M := mX3_page) (pc := 201) 216 dX3_page_201 (by decide) (by omega) (fun c201 => ?_) (fun c201 => ?_) | refine x_if_ne (M := mX3_page) (pc := 201) 216 dX3_page_201 (by decide) (fun c201 => ?_) (fun c201 => ?_)
    · refine x_iconst (M := mX3_page) (pc := 216) (v := nI 0) dX3_page_216 (by decide) ?_
      refine x_iret (M := mX3_page) (pc := 217) dX3_page_217 rfl (Nat.le_refl 0) (Nat.le_refl 0) ⟨_, _, _, _, rfl, ?_, hM, hF⟩
      refine QF.lf ?_ hL; rw [hq]; show _ = some (Value.int (bI (!zHid (B 0) pg && zOwn (B 0) (zLy (B 0)) pg))); first | (rw [c201]; rfl) | (rw [c201, c209]; rfl)
    · refine x_aload_n (M := mX3_page) (pc := 204) dX3_page_204 rfl ?_
      refine x_iload_n (M := mX3_page) (pc := 205) dX3_page_205 rfl ?_
      refine x_V1 (M := mX3_page) (pc := 206) (M' := mX3_isItsOwn) q3213 kVX3_isItsOwn dX3_page_206 (cOwn h hM) (hM.is) (fun v_ h hq_ => ?_)
      obtain ⟨hv_, rfl⟩ := hq_; cases hv_
      first | with_reducible refine x_ifB_eq (M := mX3_page) (pc := 209) 216 dX3_page_209 (by decide) (fun c209 => ?_) (fun c209 => ?_) | with_reducible refine x_if_eqN (M := mX3_page) (pc := 209) 216 dX3_page_209 (by decide) (by omega) (fun c209 => ?_) (fun c209 => ?_) | refine x_if_eq (M := mX3_page) (pc := 209) 216 dX3_page_209 (by decide) (fun c209 => ?_) (fun c209 => ?_)
      · refine x_iconst (M := mX3_page) (pc := 216) (v := nI 0) dX3_page_216 (by decide) ?_
        refine x_iret (M := mX3_page) (pc := 217) dX3_page_217 rfl (Nat.le_refl 0) (Nat.le_refl 0) ⟨_, _, _, _, rfl, ?_, hM, hF⟩
        refine QF.lf ?_ hL; rw [hq]; show _ = some (Value.int (bI (!zHid (B 0) pg && zOwn (B 0) (zLy (B 0)) pg))); first | (rw [c201]; rfl) | (rw [c201, c209]; rfl)
      · refine x_iconst (M := mX3_page) (pc := 212) (v := nI 1) dX3_page_212 (by decide) ?_
        refine x_goto (M := mX3_page) (pc := 213) 217 dX3_page_213 (by decide) ?_
        refine x_iret (M := mX3_page) (pc := 217) dX3_page_217 rfl (Nat.le_refl 0) (Nat.le_refl 0) ⟨_, _, _, _, rfl, ?_, hM, hF⟩
        refine QF.lf ?_ hL; rw [hq]; show _ = some (Value.int (bI (!zHid (B 0) pg && zOwn (B 0) (zLy (B 0)) pg))); first | (rw [c201]; rfl) | (rw [c201, c209]; rfl)
  · refine x_tableOut (M := mX3_page) (pc := 68) 218 dX3_page_68 (by exact Or.inr (by rw [nI_toInt (by omega)]; decide)) (by decide) ?_
    refine x_aload_n (M := mX3_page) (pc := 218) dX3_page_218 rfl ?_
    refine x_iload_n (M := mX3_page) (pc := 219) dX3_page_219 rfl ?_
    refine x_V1 (M := mX3_page) (pc := 220) (M' := mX3_linesOn) q3221 kVX3_linesOn dX3_page_220 (m_linesOn (d - 1) (by omega) (B 0) hB hW pg (by omega) h hM) (hM.is) (fun v_ h hq_ => ?_)
    obtain ⟨v_, I_, B_, wd_, hv_, hQ, hM_, hF_⟩ := hq_
    cases hv_
    replace hF := hF.tr hF_
    replace hM := hM_
    clear hM_ hF_
    obtain ⟨rfl, hi, hb⟩ := hQ
    refine x_iret (M := mX3_page) (pc := 223) dX3_page_223 rfl (Nat.le_refl 0) (Nat.le_refl 0) ⟨_, _, _, _, rfl, ?_, hM, hF⟩
    exact QF.nt (by rw [hq]; rfl) hL hi hb
end MODELN

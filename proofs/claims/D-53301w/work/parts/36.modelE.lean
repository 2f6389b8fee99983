section MODELE
set_option maxRecDepth 100000
variable {g : xG} {l : Launch} {m : Nat} {A : Nat → Nat} {I : Nat → Int32} {B : Nat → Nat → Int32} {wd : Int64}
theorem bIn_m1 {x : Int32} {n : Nat} (hn : n < 2 ^ 31) (h1 : 1 ≤ n) (h : bIn x 0 (nI n - 1) = true) : ∃ k, x = nI k ∧ k < n := by
  rw [show (1 : Int32) = nI 1 from rfl, pk_sub h1] at h
  obtain ⟨k, e, -, hk⟩ := bIn_n (a := 0) (by omega) (by omega) h
  exact ⟨k, e, by omega⟩
theorem m_layer (d : Nat) (hd : 3 ≤ d) (hW : WF (B 0)) (x y z : Int32) : MC g l mX3_layer d [.int x, .int y, .int z] m A I B wd (QF I B (q_layer (B 0) x y z)) := by
  intro h hM
  have hF : MF m A h h := MF.rf
  have hn := p_cans_le hW.1.2.2.2.2.1 hW.1.2.2.2.2.2
  obtain ⟨z1, z2⟩ := p_layn_ok hW.1.2.2.2.2.1 _ hW.1.2.2.2.2.2
  have hlo := p_ok_b z1
  have hb := p_ok_b hW.1.2.2.2.2.1
  have hma : (zLay (B 0)).2.2.1 = 2 ^ zNf (B 0) := p_layn_ma _ _ _ _
  refine Ct.of [some (.ref m), some (.int x), some (.int y), some (.int z), none, none] (by decide +kernel) rfl (Nat.le_of_ble_eq_true rfl) rfl rfl ?_
  refine x_aload_n (M := mX3_layer) (pc := 0) dX3_layer_0 rfl ?_
  refine x_V0 (M := mX3_layer) (pc := 1) (M' := mX3_layNow) q2952 kVX3_layNow dX3_layer_1 (m_layNow (d - 1) _ _ _ _ (by omega) hW.1 h hM) (hM.is) (fun v_ h hq_ => ?_)
  obtain ⟨v_, I_, B_, wd_, hv_, hQ, hM_, hF_⟩ := hq_
  cases hv_
  replace hF := hF.tr hF_
  replace hM := hM_
  clear hM_ hF_
  obtain ⟨rfl, hL, hY⟩ := hQ
  have hB0 := hL.2.1 0 (by omega)
  have hp1 : 1 ≤ (zLay (B 0)).1 * (zLay (B 0)).2.1 := Nat.mul_pos (by have := hlo.2.2.2.1; exact this) (by have := hlo.2.2.2.2.1; exact this)
  have hp2 : (zLay (B 0)).1 * (zLay (B 0)).2.1 * 2 ^ zNf (B 0) = zHi (B 0) * zWi (B 0) := by rw [← hma]; exact z2
  have hpw : 1 ≤ 2 ^ zNf (B 0) := Nat.two_pow_pos _
  have h16 : zHi (B 0) * zWi (B 0) ≤ 16 := by omega
  have hle : (zLay (B 0)).1 * (zLay (B 0)).2.1 ≤ 16 := Nat.le_trans (Nat.le_mul_of_pos_right _ hpw) (by omega)
  have hle2 : 2 ^ zNf (B 0) ≤ 16 := Nat.le_trans (Nat.le_mul_of_pos_left _ hp1) (by rw [hp2]; exact h16)
  refine x_iload_n (M := mX3_layer) (pc := 4) dX3_layer_4 rfl ?_
  refine x_i2l (M := mX3_layer) (pc := 5) dX3_layer_5 ?_
  refine x_lconst (M := mX3_layer) (pc := 6) (v := 0) dX3_layer_6 (by decide) ?_
  refine x_aload_n (M := mX3_layer) (pc := 7) dX3_layer_7 rfl ?_
  refine x_get (M := mX3_layer) (pc := 8) kcX3 7 rfl q2842 dX3_layer_8 hM.1 rfl ?_
  refine x_val (M := mX3_layer) (pc := 11) ((hY.1 : _ = nI (zLay (B 0)).1)) ?_
  refine x_aload_n (M := mX3_layer) (pc := 11) dX3_layer_11 rfl ?_
  refine x_get (M := mX3_layer) (pc := 12) kcX3 8 rfl q2843 dX3_layer_12 hM.1 rfl ?_
  refine x_val (M := mX3_layer) (pc := 15) ((hY.2.1 : _ = nI (zLay (B 0)).2.1)) ?_
  first | with_reducible refine x_imulN (M := mX3_layer) (pc := 15) dX3_layer_15 ?_ | refine x_imul (M := mX3_layer) (pc := 15) dX3_layer_15 ?_
  refine x_iconst (M := mX3_layer) (pc := 16) (v := nI 1) dX3_layer_16 (by decide) ?_
  first | with_reducible refine x_isubN (M := mX3_layer) (pc := 17) dX3_layer_17 (by fail) ?_ | refine x_isub (M := mX3_layer) (pc := 17) dX3_layer_17 ?_
  refine x_i2l (M := mX3_layer) (pc := 18) dX3_layer_18 ?_
  refine x_S3 (M := mX3_layer) (pc := 19) (M' := mX3_in) q2949 kSX3_in dX3_layer_19 (m_inB h x 0 (nI ((zLay (B 0)).1 * (zLay (B 0)).2.1) - 1) 0 _ (by decide) rfl (d - 1)) (fun v_ h hq_ => ?_)
  obtain ⟨hv_, rfl⟩ := hq_; cases hv_
  first | with_reducible refine x_ifB_eq (M := mX3_layer) (pc := 22) 53 dX3_layer_22 (by decide) (fun c22 => ?_) (fun c22 => ?_) | with_reducible refine x_if_eqN (M := mX3_layer) (pc := 22) 53 dX3_layer_22 (by decide) (by omega) (fun c22 => ?_) (fun c22 => ?_) | refine x_if_eq (M := mX3_layer) (pc := 22) 53 dX3_layer_22 (by decide) (fun c22 => ?_) (fun c22 => ?_)
  · refine x_iconst (M := mX3_layer) (pc := 53) (v := (-1)) dX3_layer_53 (by decide) ?_
    refine x_iret (M := mX3_layer) (pc := 54) dX3_layer_54 rfl (Nat.le_refl 0) (Nat.le_refl 0) ⟨_, _, _, _, rfl, ?_, hM, hF⟩
    exact QF.lf (by simp [q_layer, *]) hL
  refine x_iload_n (M := mX3_layer) (pc := 25) dX3_layer_25 rfl ?_
  refine x_i2l (M := mX3_layer) (pc := 26) dX3_layer_26 ?_
  refine x_lconst (M := mX3_layer) (pc := 27) (v := 0) dX3_layer_27 (by decide) ?_
  refine x_aload_n (M := mX3_layer) (pc := 28) dX3_layer_28 rfl ?_
  refine x_get (M := mX3_layer) (pc := 29) kcX3 9 rfl q2844 dX3_layer_29 hM.1 rfl ?_
  refine x_val (M := mX3_layer) (pc := 32) (hY.2.2.1.trans (congrArg nI hma)) ?_
  refine x_iconst (M := mX3_layer) (pc := 32) (v := nI 1) dX3_layer_32 (by decide) ?_
  first | with_reducible refine x_isubN (M := mX3_layer) (pc := 33) dX3_layer_33 (by fail) ?_ | refine x_isub (M := mX3_layer) (pc := 33) dX3_layer_33 ?_
  refine x_i2l (M := mX3_layer) (pc := 34) dX3_layer_34 ?_
  refine x_S3 (M := mX3_layer) (pc := 35) (M' := mX3_in) q2949 kSX3_in dX3_layer_35 (m_inB h y 0 (nI (2 ^ zNf (B 0)) - 1) 0 _ (by decide) rfl (d - 1)) (fun v_ h hq_ => ?_)
  obtain ⟨hv_, rfl⟩ := hq_; cases hv_
  first | with_reducible refine x_ifB_eq (M := mX3_layer) (pc := 38) 53 dX3_layer_38 (by decide) (fun c38 => ?_) (fun c38 => ?_) | with_reducible refine x_if_eqN (M := mX3_layer) (pc := 38) 53 dX3_layer_38 (by decide) (by omega) (fun c38 => ?_) (fun c38 => ?_) | refine x_if_eq (M := mX3_layer) (pc := 38) 53 dX3_layer_38 (by decide) (fun c38 => ?_) (fun c38 => ?_)
  · refine x_iconst (M := mX3_layer) (pc := 53) (v := (-1)) dX3_layer_53 (by decide) ?_
    refine x_iret (M := mX3_layer) (pc := 54) dX3_layer_54 rfl (Nat.le_refl 0) (Nat.le_refl 0) ⟨_, _, _, _, rfl, ?_, hM, hF⟩
    exact QF.lf (by simp [q_layer, *]) hL
  refine x_iload_n (M := mX3_layer) (pc := 41) dX3_layer_41 rfl ?_
  refine x_i2l (M := mX3_layer) (pc := 42) dX3_layer_42 ?_
  refine x_lconst (M := mX3_layer) (pc := 43) (v := 0) dX3_layer_43 (by decide) ?_
  refine x_ldc2 (M := mX3_layer) (pc := 44) dX3_layer_44 q2948 ?_
  refine x_S3 (M := mX3_layer) (pc := 47) (M' := mX3_in) q2949 kSX3_in dX3_layer_47 (m_inB h z 0 4 0 4 (by decide) (by decide) (d - 1)) (fun v_ h hq_ => ?_)
  obtain ⟨hv_, rfl⟩ := hq_; cases hv_
  first | with_reducible refine x_ifB_ne (M := mX3_layer) (pc := 50) 55 dX3_layer_50 (by decide) (fun c50 => ?_) (fun c50 => ?_) | with_reducible refine x_if_neN (M := mX3_layer) (pc := 50) 55 dX3_layer_50 (by decide) (by omega) (fun c50 => ?_) (fun c50 => ?_) | refine x_if_ne (M := mX3_layer) (pc := 50) 55 dX3_layer_50 (by decide) (fun c50 => ?_) (fun c50 => ?_)
  rotate_left
  · refine x_iconst (M := mX3_layer) (pc := 53) (v := (-1)) dX3_layer_53 (by decide) ?_
    refine x_iret (M := mX3_layer) (pc := 54) dX3_layer_54 rfl (Nat.le_refl 0) (Nat.le_refl 0) ⟨_, _, _, _, rfl, ?_, hM, hF⟩
    exact QF.lf (by simp [q_layer, *]) hL
  skip
  obtain ⟨p, rfl, hp⟩ := bIn_m1 (by omega) hp1 c22
  obtain ⟨k, rfl, hk⟩ := bIn_m1 (by omega) hpw c38
  obtain ⟨w, rfl, -, hw⟩ := bIn_n (a := 0) (b := 4) (by omega) (by omega) c50
  have hlt : 2 ^ zNf (B 0) * p + k < zHi (B 0) * zWi (B 0) := by rw [← hp2]; exact cell_lt hp hk
  obtain ⟨l1, l2, l3, l4⟩ := hY.2.2.2 (2 ^ zNf (B 0) * p + k) (by rw [z2]; exact hlt)
  have hcell := p_layn_cell hW.1.2.2.2.2.1 _ hW.1.2.2.2.2.2 _ hlt
  have hw1 : B_ 0 1 = nI (zWi (B 0)) := by rw [hB0]; exact hW.1.2.1
  have hq : q_layer (B 0) (nI p) (nI k) (nI w) = q_layT (zWi (B 0)) (zLy (B 0) (2 ^ zNf (B 0) * p + k)) w := by
    unfold q_layer
    rw [if_neg (by simp [c22, c38, c50]), nI_clamp (by omega), nI_clamp (by omega), nI_clamp (by omega)]
  have e0 : ∀ v, v = q_layT (zWi (B 0)) (zLy (B 0) (2 ^ zNf (B 0) * p + k)) w → some (Value.int v) = some (.int (q_layer (B 0) (nI p) (nI k) (nI w))) := fun v hv => by rw [hq, hv]
  refine x_aload_n (M := mX3_layer) (pc := 55) dX3_layer_55 rfl ?_
  refine x_get (M := mX3_layer) (pc := 56) kcX3 9 rfl q2844 dX3_layer_56 hM.1 rfl ?_
  refine x_val (M := mX3_layer) (pc := 59) (hY.2.2.1.trans (congrArg nI hma)) ?_
  refine x_iload_n (M := mX3_layer) (pc := 59) dX3_layer_59 rfl ?_
  first | with_reducible refine x_imulN (M := mX3_layer) (pc := 60) dX3_layer_60 ?_ | refine x_imul (M := mX3_layer) (pc := 60) dX3_layer_60 ?_
  refine x_iload_n (M := mX3_layer) (pc := 61) dX3_layer_61 rfl ?_
  first | with_reducible refine x_iaddN (M := mX3_layer) (pc := 62) dX3_layer_62 ?_ | refine x_iadd (M := mX3_layer) (pc := 62) dX3_layer_62 ?_
  refine x_istore4 (M := mX3_layer) (pc := 63) dX3_layer_63 ?_
  refine x_aload_n (M := mX3_layer) (pc := 65) dX3_layer_65 rfl ?_
  refine x_get (M := mX3_layer) (pc := 66) kcX3 10 rfl q2845 dX3_layer_66 hM.1 rfl ?_
  refine x_iload (M := mX3_layer) (pc := 69) dX3_layer_69 rfl ?_
  refine xm_ialdV (M := mX3_layer) (pc := 71) hM dX3_layer_71 (l1) (by decide) (by first | decide | (simp only [mSz] <;> omega)) ?_
  refine x_istore5 (M := mX3_layer) (pc := 72) dX3_layer_72 ?_
  refine x_iload_n (M := mX3_layer) (pc := 74) dX3_layer_74 rfl ?_
  first | with_reducible refine x_ifB_ne (M := mX3_layer) (pc := 75) 90 dX3_layer_75 (by decide) (fun c75 => ?_) (fun c75 => ?_) | with_reducible refine x_if_neN (M := mX3_layer) (pc := 75) 90 dX3_layer_75 (by decide) (by omega) (fun c75 => ?_) (fun c75 => ?_) | refine x_if_ne (M := mX3_layer) (pc := 75) 90 dX3_layer_75 (by decide) (fun c75 => ?_) (fun c75 => ?_)
  · refine x_iload_n (M := mX3_layer) (pc := 90) dX3_layer_90 rfl ?_
    refine x_iconst (M := mX3_layer) (pc := 91) (v := nI 1) dX3_layer_91 (by decide) ?_
    first | with_reducible refine x_icmp_neN (M := mX3_layer) (pc := 92) 107 dX3_layer_92 (by decide) (by omega) (by omega) (fun c92 => ?_) (fun c92 => ?_) | refine x_icmp_ne (M := mX3_layer) (pc := 92) 107 dX3_layer_92 (by decide) (fun c92 => ?_) (fun c92 => ?_)
    · refine x_iload_n (M := mX3_layer) (pc := 107) dX3_layer_107 rfl ?_
      refine x_iconst (M := mX3_layer) (pc := 108) (v := nI 2) dX3_layer_108 (by decide) ?_
      first | with_reducible refine x_icmp_neN (M := mX3_layer) (pc := 109) 122 dX3_layer_109 (by decide) (by omega) (by omega) (fun c109 => ?_) (fun c109 => ?_) | refine x_icmp_ne (M := mX3_layer) (pc := 109) 122 dX3_layer_109 (by decide) (fun c109 => ?_) (fun c109 => ?_)
      · refine x_iload_n (M := mX3_layer) (pc := 122) dX3_layer_122 rfl ?_
        refine x_iconst (M := mX3_layer) (pc := 123) (v := nI 3) dX3_layer_123 (by decide) ?_
        first | with_reducible refine x_icmp_neN (M := mX3_layer) (pc := 124) 137 dX3_layer_124 (by decide) (by omega) (by omega) (fun c124 => ?_) (fun c124 => ?_) | refine x_icmp_ne (M := mX3_layer) (pc := 124) 137 dX3_layer_124 (by decide) (fun c124 => ?_) (fun c124 => ?_)
        · refine x_aload_n (M := mX3_layer) (pc := 137) dX3_layer_137 rfl ?_
          refine x_get (M := mX3_layer) (pc := 138) kcX3 12 rfl q2847 dX3_layer_138 hM.1 rfl ?_
          refine x_iload (M := mX3_layer) (pc := 141) dX3_layer_141 rfl ?_
          refine xm_ialdV (M := mX3_layer) (pc := 143) hM dX3_layer_143 (l3) (by decide) (by first | decide | (simp only [mSz] <;> omega)) ?_
          refine x_iret (M := mX3_layer) (pc := 144) dX3_layer_144 rfl (Nat.le_refl 0) (Nat.le_refl 0) ⟨_, _, _, _, rfl, ?_, hM, hF⟩
          exact QF.lf (e0 _ (by first | (rw [show w = 0 by omega]; rfl) | (rw [show w = 1 by omega]; rfl) | (rw [show w = 2 by omega]; rfl) | (rw [show w = 3 by omega]; rfl) | (rw [show w = 4 by omega]; rfl))) hL
        · refine x_aload_n (M := mX3_layer) (pc := 127) dX3_layer_127 rfl ?_
          refine x_get (M := mX3_layer) (pc := 128) kcX3 13 rfl q2848 dX3_layer_128 hM.1 rfl ?_
          refine x_iload (M := mX3_layer) (pc := 131) dX3_layer_131 rfl ?_
          refine xm_ialdV (M := mX3_layer) (pc := 133) hM dX3_layer_133 (l4) (by decide) (by first | decide | (simp only [mSz] <;> omega)) ?_
          refine x_goto (M := mX3_layer) (pc := 134) 144 dX3_layer_134 (by decide) ?_
          refine x_iret (M := mX3_layer) (pc := 144) dX3_layer_144 rfl (Nat.le_refl 0) (Nat.le_refl 0) ⟨_, _, _, _, rfl, ?_, hM, hF⟩
          exact QF.lf (e0 _ (by first | (rw [show w = 0 by omega]; rfl) | (rw [show w = 1 by omega]; rfl) | (rw [show w = 2 by omega]; rfl) | (rw [show w = 3 by omega]; rfl) | (rw [show w = 4 by omega]; rfl))) hL
      · refine x_aload_n (M := mX3_layer) (pc := 112) dX3_layer_112 rfl ?_
        refine x_get (M := mX3_layer) (pc := 113) kcX3 11 rfl q2846 dX3_layer_113 hM.1 rfl ?_
        refine x_iload (M := mX3_layer) (pc := 116) dX3_layer_116 rfl ?_
        refine xm_ialdV (M := mX3_layer) (pc := 118) hM dX3_layer_118 (l2) (by decide) (by first | decide | (simp only [mSz] <;> omega)) ?_
        refine x_goto (M := mX3_layer) (pc := 119) 144 dX3_layer_119 (by decide) ?_
        refine x_iret (M := mX3_layer) (pc := 144) dX3_layer_144 rfl (Nat.le_refl 0) (Nat.le_refl 0) ⟨_, _, _, _, rfl, ?_, hM, hF⟩
        exact QF.lf (e0 _ (by first | (rw [show w = 0 by omega]; rfl) | (rw [show w = 1 by omega]; rfl) | (rw [show w = 2 by omega]; rfl) | (rw [show w = 3 by omega]; rfl) | (rw [show w = 4 by omega]; rfl))) hL
    · refine x_iload (M := mX3_layer) (pc := 95) dX3_layer_95 rfl ?_
      refine x_aload_n (M := mX3_layer) (pc := 97) dX3_layer_97 rfl ?_
      refine x_get (M := mX3_layer) (pc := 98) kcX3 0 rfl q2835 dX3_layer_98 hM.1 rfl ?_
      refine x_iconst (M := mX3_layer) (pc := 101) (v := nI 1) dX3_layer_101 (by decide) ?_
      refine xm_ialdV (M := mX3_layer) (pc := 102) hM dX3_layer_102 (hw1) (by decide) (by first | decide | (simp only [mSz] <;> omega)) ?_
      first | with_reducible refine x_iremN (M := mX3_layer) (pc := 103) dX3_layer_103 (by omega) (by omega) (by omega) ?_ | refine x_irem (M := mX3_layer) (pc := 103) dX3_layer_103 (by first | decide | assumption) ?_
      refine x_goto (M := mX3_layer) (pc := 104) 144 dX3_layer_104 (by decide) ?_
      refine x_iret (M := mX3_layer) (pc := 144) dX3_layer_144 rfl (Nat.le_refl 0) (Nat.le_refl 0) ⟨_, _, _, _, rfl, ?_, hM, hF⟩
      exact QF.lf (e0 _ (by first | (rw [show w = 0 by omega]; rfl) | (rw [show w = 1 by omega]; rfl) | (rw [show w = 2 by omega]; rfl) | (rw [show w = 3 by omega]; rfl) | (rw [show w = 4 by omega]; rfl))) hL
  · refine x_iload (M := mX3_layer) (pc := 78) dX3_layer_78 rfl ?_
    refine x_aload_n (M := mX3_layer) (pc := 80) dX3_layer_80 rfl ?_
    refine x_get (M := mX3_layer) (pc := 81) kcX3 0 rfl q2835 dX3_layer_81 hM.1 rfl ?_
    refine x_iconst (M := mX3_layer) (pc := 84) (v := nI 1) dX3_layer_84 (by decide) ?_
    refine xm_ialdV (M := mX3_layer) (pc := 85) hM dX3_layer_85 (hw1) (by decide) (by first | decide | (simp only [mSz] <;> omega)) ?_
    first | with_reducible refine x_idivN (M := mX3_layer) (pc := 86) dX3_layer_86 (by omega) (by omega) (by omega) ?_ | refine x_idiv (M := mX3_layer) (pc := 86) dX3_layer_86 (by first | decide | assumption) ?_
    refine x_goto (M := mX3_layer) (pc := 87) 144 dX3_layer_87 (by decide) ?_
    refine x_iret (M := mX3_layer) (pc := 144) dX3_layer_144 rfl (Nat.le_refl 0) (Nat.le_refl 0) ⟨_, _, _, _, rfl, ?_, hM, hF⟩
    exact QF.lf (e0 _ (by first | (rw [show w = 0 by omega]; rfl) | (rw [show w = 1 by omega]; rfl) | (rw [show w = 2 by omega]; rfl) | (rw [show w = 3 by omega]; rfl) | (rw [show w = 4 by omega]; rfl))) hL
theorem m_hanging (d : Nat) (hd : 4 ≤ d) (hW : WF (B 0)) (x : Int32) : MC g l mX3_hanging d [.int x] m A I B wd (QF I B (q_hanging (B 0) x)) := by
  intro h hM
  have hF : MF m A h h := MF.rf
  obtain ⟨h8, h8b⟩ := hW.2.2.1
  refine Ct.of [some (.ref m), some (.int x)] (by decide +kernel) rfl (Nat.le_of_ble_eq_true rfl) rfl rfl ?_
  refine x_aload_n (M := mX3_hanging) (pc := 0) dX3_hanging_0 rfl ?_
  refine x_V0 (M := mX3_hanging) (pc := 1) (M' := mX3_isBooklet) q3023 kVX3_isBooklet dX3_hanging_1 (m_isBooklet (d - 1) _ _ _ _ (by omega) hW.1 h hM) (hM.is) (fun v_ h hq_ => ?_)
  obtain ⟨v_, I_, B_, wd_, hv_, hQ, hM_, hF_⟩ := hq_
  cases hv_
  replace hF := hF.tr hF_
  replace hM := hM_
  clear hM_ hF_
  obtain ⟨rfl, hL, hY⟩ := hQ; have hB0 := hL.2.1 0 (by omega)
  first | with_reducible refine x_ifB_ne (M := mX3_hanging) (pc := 4) 10 dX3_hanging_4 (by decide) (fun c4 => ?_) (fun c4 => ?_) | with_reducible refine x_if_neN (M := mX3_hanging) (pc := 4) 10 dX3_hanging_4 (by decide) (by omega) (fun c4 => ?_) (fun c4 => ?_) | refine x_if_ne (M := mX3_hanging) (pc := 4) 10 dX3_hanging_4 (by decide) (fun c4 => ?_) (fun c4 => ?_)
  rotate_left
  · refine x_bipush (M := mX3_hanging) (pc := 7) (v := (-2)) dX3_hanging_7 (by decide) ?_
    refine x_iret (M := mX3_hanging) (pc := 9) dX3_hanging_9 rfl (Nat.le_refl 0) (Nat.le_refl 0) ⟨_, _, _, _, rfl, ?_, hM, hF⟩
    exact QF.lf (by rw [q_hanging, if_pos (show zBook (B 0) = false from c4)]) hL
  refine x_iload_n (M := mX3_hanging) (pc := 10) dX3_hanging_10 rfl ?_
  refine x_i2l (M := mX3_hanging) (pc := 11) dX3_hanging_11 ?_
  refine x_lconst (M := mX3_hanging) (pc := 12) (v := 0) dX3_hanging_12 (by decide) ?_
  refine x_ldc2 (M := mX3_hanging) (pc := 13) dX3_hanging_13 q3022 ?_
  refine x_S3 (M := mX3_hanging) (pc := 16) (M' := mX3_in) q2949 kSX3_in dX3_hanging_16 (m_inB h x 0 3 0 3 (by decide) (by decide) (d - 1)) (fun v_ h hq_ => ?_)
  obtain ⟨hv_, rfl⟩ := hq_; cases hv_
  first | with_reducible refine x_ifB_ne (M := mX3_hanging) (pc := 19) 26 dX3_hanging_19 (by decide) (fun c19 => ?_) (fun c19 => ?_) | with_reducible refine x_if_neN (M := mX3_hanging) (pc := 19) 26 dX3_hanging_19 (by decide) (by omega) (fun c19 => ?_) (fun c19 => ?_) | refine x_if_ne (M := mX3_hanging) (pc := 19) 26 dX3_hanging_19 (by decide) (fun c19 => ?_) (fun c19 => ?_)
  rotate_left
  · refine x_iconst (M := mX3_hanging) (pc := 22) (v := (-1)) dX3_hanging_22 (by decide) ?_
    refine x_goto (M := mX3_hanging) (pc := 23) 49 dX3_hanging_23 (by decide) ?_
    refine x_iret (M := mX3_hanging) (pc := 49) dX3_hanging_49 rfl (Nat.le_refl 0) (Nat.le_refl 0) ⟨_, _, _, _, rfl, ?_, hM, hF⟩
    exact QF.lf (by rw [q_hanging, if_neg (by rw [show zBook (B 0) = true from c4]; decide), if_pos c19]) hL
  skip
  obtain ⟨n, rfl, -, hn⟩ := bIn_n (a := 0) (b := 3) (by omega) (by omega) c19
  have hcl : (nI n).toNatClampNeg = n := nI_clamp (by omega)
  have hbk := BK_of hW.1.2.2.2.2.1 hW.1.2.2.2.2.2 hY (of_decide_eq_true c4) (by rw [hB0]; exact hW.1.2.1)
  refine x_aload_n (M := mX3_hanging) (pc := 26) dX3_hanging_26 rfl ?_
  refine x_get (M := mX3_hanging) (pc := 27) kcX3 0 rfl q2835 dX3_hanging_27 hM.1 rfl ?_
  refine x_bipush (M := mX3_hanging) (pc := 30) (v := nI 8) dX3_hanging_30 (by decide) ?_
  refine xm_ialdV (M := mX3_hanging) (pc := 32) hM dX3_hanging_32 ((by rw [hB0]; exact h8 : _ = nI (zN (B 0) 8))) (by decide) (by first | decide | (simp only [mSz] <;> omega)) ?_
  refine x_iload_n (M := mX3_hanging) (pc := 33) dX3_hanging_33 rfl ?_
  refine x_S2 (M := mX3_hanging) (pc := 34) (M' := mX3_has) q3027 kSX3_has dX3_hanging_34 (m_has_n h (zN (B 0) 8) n (by omega) (by omega) (d - 1)) (fun v_ h hq_ => ?_)
  obtain ⟨hv_, rfl⟩ := hq_; cases hv_
  first | with_reducible refine x_ifB_eq (M := mX3_hanging) (pc := 37) 44 dX3_hanging_37 (by decide) (fun c37 => ?_) (fun c37 => ?_) | with_reducible refine x_if_eqN (M := mX3_hanging) (pc := 37) 44 dX3_hanging_37 (by decide) (by omega) (fun c37 => ?_) (fun c37 => ?_) | refine x_if_eq (M := mX3_hanging) (pc := 37) 44 dX3_hanging_37 (by decide) (fun c37 => ?_) (fun c37 => ?_)
  · refine x_aload_n (M := mX3_hanging) (pc := 44) dX3_hanging_44 rfl ?_
    refine x_iload_n (M := mX3_hanging) (pc := 45) dX3_hanging_45 rfl ?_
    refine x_V1 (M := mX3_hanging) (pc := 46) (M' := mX3_pairsAt) q3030 kVX3_pairsAt dX3_hanging_46 (m_pairsAt (d - 1) _ _ _ hbk n (by omega) (by omega) h hM) (hM.is) (fun v_ h hq_ => ?_)
    obtain ⟨hv_, rfl⟩ := hq_; cases hv_
    refine x_iret (M := mX3_hanging) (pc := 49) dX3_hanging_49 rfl (Nat.le_refl 0) (Nat.le_refl 0) ⟨_, _, _, _, rfl, ?_, hM, hF⟩
    refine QF.lf ?_ hL; rw [q_hanging, if_neg (by rw [show zBook (B 0) = true from c4]; decide), if_neg (by rw [c19]; decide), hcl, c37]; rfl
  · refine x_iconst (M := mX3_hanging) (pc := 40) (v := nI 0) dX3_hanging_40 (by decide) ?_
    refine x_goto (M := mX3_hanging) (pc := 41) 49 dX3_hanging_41 (by decide) ?_
    refine x_iret (M := mX3_hanging) (pc := 49) dX3_hanging_49 rfl (Nat.le_refl 0) (Nat.le_refl 0) ⟨_, _, _, _, rfl, ?_, hM, hF⟩
    refine QF.lf ?_ hL; rw [q_hanging, if_neg (by rw [show zBook (B 0) = true from c4]; decide), if_neg (by rw [c19]; decide), hcl, c37]; rfl
theorem m_together (d : Nat) (hd : 4 ≤ d) (hW : WF (B 0)) (x y : Int32) : MC g l mX3_together d [.int x, .int y] m A I B wd (QF I B (q_together (B 0) x y)) := by
  intro h hM
  have hF : MF m A h h := MF.rf
  obtain ⟨h8, h8b⟩ := hW.2.2.1
  refine Ct.of [some (.ref m), some (.int x), some (.int y), none] (by decide +kernel) rfl (Nat.le_of_ble_eq_true rfl) rfl rfl ?_
  refine x_aload_n (M := mX3_together) (pc := 0) dX3_together_0 rfl ?_
  refine x_V0 (M := mX3_together) (pc := 1) (M' := mX3_isBooklet) q3023 kVX3_isBooklet dX3_together_1 (m_isBooklet (d - 1) _ _ _ _ (by omega) hW.1 h hM) (hM.is) (fun v_ h hq_ => ?_)
  obtain ⟨v_, I_, B_, wd_, hv_, hQ, hM_, hF_⟩ := hq_
  cases hv_
  replace hF := hF.tr hF_
  replace hM := hM_
  clear hM_ hF_
  obtain ⟨rfl, hL, hY⟩ := hQ; have hB0 := hL.2.1 0 (by omega)
  first | with_reducible refine x_ifB_ne (M := mX3_together) (pc := 4) 10 dX3_together_4 (by decide) (fun c4 => ?_) (fun c4 => ?_) | with_reducible refine x_if_neN (M := mX3_together) (pc := 4) 10 dX3_together_4 (by decide) (by omega) (fun c4 => ?_) (fun c4 => ?_) | refine x_if_ne (M := mX3_together) (pc := 4) 10 dX3_together_4 (by decide) (fun c4 => ?_) (fun c4 => ?_)
  rotate_left
  · refine x_bipush (M := mX3_together) (pc := 7) (v := (-2)) dX3_together_7 (by decide) ?_
    refine x_iret (M := mX3_together) (pc := 9) dX3_together_9 rfl (Nat.le_refl 0) (Nat.le_refl 0) ⟨_, _, _, _, rfl, ?_, hM, hF⟩
    exact QF.lf (by rw [q_together, if_pos (show zBook (B 0) = false from c4)]) hL
  skip
  have hbk := BK_of hW.1.2.2.2.2.1 hW.1.2.2.2.2.2 hY (of_decide_eq_true c4) (by rw [hB0]; exact hW.1.2.1)
  have hb1 := hbk.2.2.2.1
  have hb16 := hbk.2.2.2.2.1
  have hbt : zBook (B 0) = true := c4
  refine x_iload_n (M := mX3_together) (pc := 10) dX3_together_10 rfl ?_
  refine x_i2l (M := mX3_together) (pc := 11) dX3_together_11 ?_
  refine x_lconst (M := mX3_together) (pc := 12) (v := 0) dX3_together_12 (by decide) ?_
  refine x_aload_n (M := mX3_together) (pc := 13) dX3_together_13 rfl ?_
  refine x_get (M := mX3_together) (pc := 14) kcX3 9 rfl q2844 dX3_together_14 hM.1 rfl ?_
  refine x_val (M := mX3_together) (pc := 17) (hbk.1) ?_
  refine x_iconst (M := mX3_together) (pc := 17) (v := nI 1) dX3_together_17 (by decide) ?_
  first | with_reducible refine x_isubN (M := mX3_together) (pc := 18) dX3_together_18 (by fail) ?_ | refine x_isub (M := mX3_together) (pc := 18) dX3_together_18 ?_
  refine x_i2l (M := mX3_together) (pc := 19) dX3_together_19 ?_
  refine x_S3 (M := mX3_together) (pc := 20) (M' := mX3_in) q2949 kSX3_in dX3_together_20 (m_inB h x 0 (nI (zN16 (B 0)) - 1) 0 _ (by decide) rfl (d - 1)) (fun v_ h hq_ => ?_)
  obtain ⟨hv_, rfl⟩ := hq_; cases hv_
  first | with_reducible refine x_ifB_eq (M := mX3_together) (pc := 23) 47 dX3_together_23 (by decide) (fun c23 => ?_) (fun c23 => ?_) | with_reducible refine x_if_eqN (M := mX3_together) (pc := 23) 47 dX3_together_23 (by decide) (by omega) (fun c23 => ?_) (fun c23 => ?_) | refine x_if_eq (M := mX3_together) (pc := 23) 47 dX3_together_23 (by decide) (fun c23 => ?_) (fun c23 => ?_)
  · refine x_iconst (M := mX3_together) (pc := 47) (v := (-1)) dX3_together_47 (by decide) ?_
    refine x_iret (M := mX3_together) (pc := 48) dX3_together_48 rfl (Nat.le_refl 0) (Nat.le_refl 0) ⟨_, _, _, _, rfl, ?_, hM, hF⟩
    refine QF.lf ?_ hL; rw [q_together, if_neg (by rw [hbt]; decide), if_pos (by first | (left; rw [c23]; rfl) | (left; rw [c39, Bool.and_false]; done) | exact Or.inr r_1)]
  refine x_iload_n (M := mX3_together) (pc := 26) dX3_together_26 rfl ?_
  refine x_i2l (M := mX3_together) (pc := 27) dX3_together_27 ?_
  refine x_lconst (M := mX3_together) (pc := 28) (v := 0) dX3_together_28 (by decide) ?_
  refine x_aload_n (M := mX3_together) (pc := 29) dX3_together_29 rfl ?_
  refine x_get (M := mX3_together) (pc := 30) kcX3 9 rfl q2844 dX3_together_30 hM.1 rfl ?_
  refine x_val (M := mX3_together) (pc := 33) (hbk.1) ?_
  refine x_iconst (M := mX3_together) (pc := 33) (v := nI 1) dX3_together_33 (by decide) ?_
  first | with_reducible refine x_isubN (M := mX3_together) (pc := 34) dX3_together_34 (by fail) ?_ | refine x_isub (M := mX3_together) (pc := 34) dX3_together_34 ?_
  refine x_i2l (M := mX3_together) (pc := 35) dX3_together_35 ?_
  refine x_S3 (M := mX3_together) (pc := 36) (M' := mX3_in) q2949 kSX3_in dX3_together_36 (m_inB h y 0 (nI (zN16 (B 0)) - 1) 0 _ (by decide) rfl (d - 1)) (fun v_ h hq_ => ?_)
  obtain ⟨hv_, rfl⟩ := hq_; cases hv_
  first | with_reducible refine x_ifB_eq (M := mX3_together) (pc := 39) 47 dX3_together_39 (by decide) (fun c39 => ?_) (fun c39 => ?_) | with_reducible refine x_if_eqN (M := mX3_together) (pc := 39) 47 dX3_together_39 (by decide) (by omega) (fun c39 => ?_) (fun c39 => ?_) | refine x_if_eq (M := mX3_together) (pc := 39) 47 dX3_together_39 (by decide) (fun c39 => ?_) (fun c39 => ?_)
  · refine x_iconst (M := mX3_together) (pc := 47) (v := (-1)) dX3_together_47 (by decide) ?_
    refine x_iret (M := mX3_together) (pc := 48) dX3_together_48 rfl (Nat.le_refl 0) (Nat.le_refl 0) ⟨_, _, _, _, rfl, ?_, hM, hF⟩
    refine QF.lf ?_ hL; rw [q_together, if_neg (by rw [hbt]; decide), if_pos (by first | (left; rw [c23]; rfl) | (left; rw [c39, Bool.and_false]; done) | exact Or.inr r_1)]
  refine x_iload_n (M := mX3_together) (pc := 42) dX3_together_42 rfl ?_
  refine x_iload_n (M := mX3_together) (pc := 43) dX3_together_43 rfl ?_
  refine x_icmp_ne (M := mX3_together) (pc := 44) 49 dX3_together_44 (by decide) (fun r_1 => ?_) (fun r_1 => ?_)
  rotate_left
  · refine x_iconst (M := mX3_together) (pc := 47) (v := (-1)) dX3_together_47 (by decide) ?_
    refine x_iret (M := mX3_together) (pc := 48) dX3_together_48 rfl (Nat.le_refl 0) (Nat.le_refl 0) ⟨_, _, _, _, rfl, ?_, hM, hF⟩
    refine QF.lf ?_ hL; rw [q_together, if_neg (by rw [hbt]; decide), if_pos (by first | (left; rw [c23]; rfl) | (left; rw [c39, Bool.and_false]; done) | exact Or.inr r_1)]
  skip
  obtain ⟨i, rfl, hi⟩ := bIn_m1 (by omega) hb1 c23
  obtain ⟨j, rfl, hj⟩ := bIn_m1 (by omega) hb1 c39
  have hq : q_together (B 0) (nI i) (nI j) = q_tog (B 0) (p_edge (zWi (B 0)) (zLy (B 0)) i j) := by
    rw [q_together, if_neg (by rw [hbt]; decide), if_neg (fun z => z.elim (fun z => by rw [c23, c39] at z; cases z) r_1), nI_clamp (by omega), nI_clamp (by omega)]
  refine x_aload_n (M := mX3_together) (pc := 49) dX3_together_49 rfl ?_
  refine x_iload_n (M := mX3_together) (pc := 50) dX3_together_50 rfl ?_
  refine x_iload_n (M := mX3_together) (pc := 51) dX3_together_51 rfl ?_
  refine x_V2 (M := mX3_together) (pc := 52) (M' := mX3_edgeOf) q3034 kVX3_edgeOf dX3_together_52 (m_edgeOf (d - 1) _ _ _ hbk i j hi hj h hM) (hM.is) (fun v_ h hq_ => ?_)
  obtain ⟨hv_, rfl⟩ := hq_
  cases hv_
  have hed : p_edge (zWi (B 0)) (zLy (B 0)) i j = p_edge (zWi (B 0)) (p_layn (zHi (B 0)) (zWi (B 0)) (zFo (B 0)) (zNf (B 0))).2.2.2 i j := rfl
  cases he : p_edge (zWi (B 0)) (p_layn (zHi (B 0)) (zWi (B 0)) (zFo (B 0)) (zNf (B 0))).2.2.2 i j with
  | none =>
    refine x_val (M := mX3_together) (pc := 55) (w := -1) rfl ?_
    refine x_istore3 (M := mX3_together) (pc := 55) dX3_together_55 ?_
    refine x_iload_n (M := mX3_together) (pc := 56) dX3_together_56 rfl ?_
    first | refine x_if_lt (M := mX3_together) (pc := 57) 74 dX3_together_57 (by decide) (fun c57 => ?_) (fun c57 => ?_)
    · refine x_iconst (M := mX3_together) (pc := 74) (v := nI 0) dX3_together_74 (by decide) ?_
      refine x_goto (M := mX3_together) (pc := 75) 81 dX3_together_75 (by decide) ?_
      refine x_iret (M := mX3_together) (pc := 81) dX3_together_81 rfl (Nat.le_refl 0) (Nat.le_refl 0) ⟨_, _, _, _, rfl, ?_, hM, hF⟩
      exact QF.lf (by rw [hq, hed, he]; rfl) hL
    · exact absurd (by decide) c57
  | some e =>
    have he4 := p_edge_lt he
    refine x_val (M := mX3_together) (pc := 55) (w := nI e) rfl ?_
    refine x_istore3 (M := mX3_together) (pc := 55) dX3_together_55 ?_
    refine x_iload_n (M := mX3_together) (pc := 56) dX3_together_56 rfl ?_
    first | refine x_if_lt (M := mX3_together) (pc := 57) 74 dX3_together_57 (by decide) (fun c57 => ?_) (fun c57 => ?_)
    · exact absurd c57 (nI_pos (by omega))
    · refine x_aload_n (M := mX3_together) (pc := 60) dX3_together_60 rfl ?_
      refine x_get (M := mX3_together) (pc := 61) kcX3 0 rfl q2835 dX3_together_61 hM.1 rfl ?_
      refine x_bipush (M := mX3_together) (pc := 64) (v := nI 8) dX3_together_64 (by decide) ?_
      refine xm_ialdV (M := mX3_together) (pc := 66) hM dX3_together_66 ((by rw [hB0]; exact h8 : _ = nI (zN (B 0) 8))) (by decide) (by first | decide | (simp only [mSz] <;> omega)) ?_
      refine x_iload_n (M := mX3_together) (pc := 67) dX3_together_67 rfl ?_
      refine x_S2 (M := mX3_together) (pc := 68) (M' := mX3_has) q3027 kSX3_has dX3_together_68 (m_has_n h (zN (B 0) 8) e (by omega) (by omega) (d - 1)) (fun v_ h hq_ => ?_)
      obtain ⟨hv_, rfl⟩ := hq_; cases hv_
      first | with_reducible refine x_ifB_eq (M := mX3_together) (pc := 71) 78 dX3_together_71 (by decide) (fun c71 => ?_) (fun c71 => ?_) | with_reducible refine x_if_eqN (M := mX3_together) (pc := 71) 78 dX3_together_71 (by decide) (by omega) (fun c71 => ?_) (fun c71 => ?_) | refine x_if_eq (M := mX3_together) (pc := 71) 78 dX3_together_71 (by decide) (fun c71 => ?_) (fun c71 => ?_)
      · refine x_iconst (M := mX3_together) (pc := 78) (v := nI 1) dX3_together_78 (by decide) ?_
        refine x_iload_n (M := mX3_together) (pc := 79) dX3_together_79 rfl ?_
        refine x_ishl (M := mX3_together) (pc := 80) dX3_together_80 ?_
        refine x_val (M := mX3_together) (pc := 81) (nI_one e (by omega)) ?_
        refine x_iret (M := mX3_together) (pc := 81) dX3_together_81 rfl (Nat.le_refl 0) (Nat.le_refl 0) ⟨_, _, _, _, rfl, ?_, hM, hF⟩
        exact QF.lf (by rw [hq, hed, he]; simp only [q_tog]; rw [c71]; rfl) hL
      · refine x_iconst (M := mX3_together) (pc := 74) (v := nI 0) dX3_together_74 (by decide) ?_
        refine x_goto (M := mX3_together) (pc := 75) 81 dX3_together_75 (by decide) ?_
        refine x_iret (M := mX3_together) (pc := 81) dX3_together_81 rfl (Nat.le_refl 0) (Nat.le_refl 0) ⟨_, _, _, _, rfl, ?_, hM, hF⟩
        exact QF.lf (by rw [hq, hed, he]; simp only [q_tog]; rw [c71]; rfl) hL
theorem m_opening (d : Nat) (hd : 4 ≤ d) (hW : WF (B 0)) (x y : Int32) : MC g l mX3_opening d [.int x, .int y] m A I B wd (QF I B (q_opening (B 0) x y)) := by
  intro h hM
  have hF : MF m A h h := MF.rf
  obtain ⟨h8, h8b⟩ := hW.2.2.1
  obtain ⟨h7, h7b⟩ := hW.2.1
  refine Ct.of [some (.ref m), some (.int x), some (.int y), none, none] (by decide +kernel) rfl (Nat.le_of_ble_eq_true rfl) rfl rfl ?_
  refine x_aload_n (M := mX3_opening) (pc := 0) dX3_opening_0 rfl ?_
  refine x_V0 (M := mX3_opening) (pc := 1) (M' := mX3_isBooklet) q3023 kVX3_isBooklet dX3_opening_1 (m_isBooklet (d - 1) _ _ _ _ (by omega) hW.1 h hM) (hM.is) (fun v_ h hq_ => ?_)
  obtain ⟨v_, I_, B_, wd_, hv_, hQ, hM_, hF_⟩ := hq_
  cases hv_
  replace hF := hF.tr hF_
  replace hM := hM_
  clear hM_ hF_
  obtain ⟨rfl, hL, hY⟩ := hQ; have hB0 := hL.2.1 0 (by omega)
  first | with_reducible refine x_ifB_ne (M := mX3_opening) (pc := 4) 10 dX3_opening_4 (by decide) (fun c4 => ?_) (fun c4 => ?_) | with_reducible refine x_if_neN (M := mX3_opening) (pc := 4) 10 dX3_opening_4 (by decide) (by omega) (fun c4 => ?_) (fun c4 => ?_) | refine x_if_ne (M := mX3_opening) (pc := 4) 10 dX3_opening_4 (by decide) (fun c4 => ?_) (fun c4 => ?_)
  rotate_left
  · refine x_bipush (M := mX3_opening) (pc := 7) (v := (-2)) dX3_opening_7 (by decide) ?_
    refine x_iret (M := mX3_opening) (pc := 9) dX3_opening_9 rfl (Nat.le_refl 0) (Nat.le_refl 0) ⟨_, _, _, _, rfl, ?_, hM, hF⟩
    exact QF.lf (by rw [q_opening, if_pos (show zBook (B 0) = false from c4)]) hL
  skip
  have hbk := BK_of hW.1.2.2.2.2.1 hW.1.2.2.2.2.2 hY (of_decide_eq_true c4) (by rw [hB0]; exact hW.1.2.1)
  have hb1 := hbk.2.2.2.1
  have hb16 := hbk.2.2.2.2.1
  have hbt : zBook (B 0) = true := c4
  have hN16 : zN16 (B 0) ≤ 16 := hb16
  have hNe : zN16 (B 0) = zHi (B 0) * zWi (B 0) := rfl
  refine x_iload_n (M := mX3_opening) (pc := 10) dX3_opening_10 rfl ?_
  refine x_i2l (M := mX3_opening) (pc := 11) dX3_opening_11 ?_
  refine x_lconst (M := mX3_opening) (pc := 12) (v := 0) dX3_opening_12 (by decide) ?_
  refine x_aload_n (M := mX3_opening) (pc := 13) dX3_opening_13 rfl ?_
  refine x_get (M := mX3_opening) (pc := 14) kcX3 9 rfl q2844 dX3_opening_14 hM.1 rfl ?_
  refine x_val (M := mX3_opening) (pc := 17) (hbk.1) ?_
  refine x_i2l (M := mX3_opening) (pc := 17) dX3_opening_17 ?_
  refine x_S3 (M := mX3_opening) (pc := 18) (M' := mX3_in) q2949 kSX3_in dX3_opening_18 (m_inB h x 0 (nI (zN16 (B 0))) 0 _ (by decide) rfl (d - 1)) (fun v_ h hq_ => ?_)
  obtain ⟨hv_, rfl⟩ := hq_; cases hv_
  first | with_reducible refine x_ifB_eq (M := mX3_opening) (pc := 21) 36 dX3_opening_21 (by decide) (fun c21 => ?_) (fun c21 => ?_) | with_reducible refine x_if_eqN (M := mX3_opening) (pc := 21) 36 dX3_opening_21 (by decide) (by omega) (fun c21 => ?_) (fun c21 => ?_) | refine x_if_eq (M := mX3_opening) (pc := 21) 36 dX3_opening_21 (by decide) (fun c21 => ?_) (fun c21 => ?_)
  · refine x_iconst (M := mX3_opening) (pc := 36) (v := (-1)) dX3_opening_36 (by decide) ?_
    refine x_iret (M := mX3_opening) (pc := 37) dX3_opening_37 rfl (Nat.le_refl 0) (Nat.le_refl 0) ⟨_, _, _, _, rfl, ?_, hM, hF⟩
    refine QF.lf ?_ hL; rw [q_opening, if_neg (by rw [hbt]; decide), if_pos (by first | (rw [c21]; rfl) | (rw [c33, Bool.and_false]; done))]
  refine x_iload_n (M := mX3_opening) (pc := 24) dX3_opening_24 rfl ?_
  refine x_i2l (M := mX3_opening) (pc := 25) dX3_opening_25 ?_
  refine x_lconst (M := mX3_opening) (pc := 26) (v := 0) dX3_opening_26 (by decide) ?_
  refine x_ldc2 (M := mX3_opening) (pc := 27) dX3_opening_27 q3245 ?_
  refine x_S3 (M := mX3_opening) (pc := 30) (M' := mX3_in) q2949 kSX3_in dX3_opening_30 (m_inB h y 0 2 0 2 (by decide) (by decide) (d - 1)) (fun v_ h hq_ => ?_)
  obtain ⟨hv_, rfl⟩ := hq_; cases hv_
  first | with_reducible refine x_ifB_ne (M := mX3_opening) (pc := 33) 38 dX3_opening_33 (by decide) (fun c33 => ?_) (fun c33 => ?_) | with_reducible refine x_if_neN (M := mX3_opening) (pc := 33) 38 dX3_opening_33 (by decide) (by omega) (fun c33 => ?_) (fun c33 => ?_) | refine x_if_ne (M := mX3_opening) (pc := 33) 38 dX3_opening_33 (by decide) (fun c33 => ?_) (fun c33 => ?_)
  rotate_left
  · refine x_iconst (M := mX3_opening) (pc := 36) (v := (-1)) dX3_opening_36 (by decide) ?_
    refine x_iret (M := mX3_opening) (pc := 37) dX3_opening_37 rfl (Nat.le_refl 0) (Nat.le_refl 0) ⟨_, _, _, _, rfl, ?_, hM, hF⟩
    refine QF.lf ?_ hL; rw [q_opening, if_neg (by rw [hbt]; decide), if_pos (by first | (rw [c21]; rfl) | (rw [c33, Bool.and_false]; done))]
  skip
  obtain ⟨o, rfl, -, ho⟩ := bIn_n (a := 0) (b := zN16 (B 0)) (by omega) (by omega) c21
  obtain ⟨w, rfl, -, hw⟩ := bIn_n (a := 0) (b := 2) (by omega) (by omega) c33
  have hcl : (nI o).toNatClampNeg = o := nI_clamp (by omega)
  have hq0 : q_opening (B 0) (nI o) (nI w) = if w = 0 then bI (decide (zShut (B 0) o ≠ 0)) else if w = 1 then nI (zShut (B 0) o) else if zShut (B 0) o = 0 then (if o = 0 ∨ o = zN16 (B 0) then 1 else 2) * B 0 11 else 0 := by
    rw [q_opening, if_neg (by rw [hbt]; decide), if_neg (by rw [c21, c33]; decide), hcl]
    have a0 : (nI w = 0) ↔ w = 0 := nI_z0 (by omega)
    have a1 : (nI w = 1) ↔ w = 1 := nI_eq (b := 1) (by omega) (by omega)
    have a2 : (nI o = 0) ↔ o = 0 := nI_z0 (by omega)
    have a3 : (nI o = nI (zN16 (B 0))) ↔ o = zN16 (B 0) := nI_eq (by omega) (by omega)
    simp only [a0, a1, a2, a3]
  have hsl : zShut (B 0) o < 16 := p_shut_lt
  have e0 : ∀ v, v = (if w = 0 then bI (decide (zShut (B 0) o ≠ 0)) else if w = 1 then nI (zShut (B 0) o) else if zShut (B 0) o = 0 then (if o = 0 ∨ o = zN16 (B 0) then 1 else 2) * B 0 11 else 0) → some (Value.int v) = some (.int (q_opening (B 0) (nI o) (nI w))) := fun v hv => by rw [hq0, hv]
  refine x_aload_n (M := mX3_opening) (pc := 38) dX3_opening_38 rfl ?_
  refine x_iload_n (M := mX3_opening) (pc := 39) dX3_opening_39 rfl ?_
  refine x_aload_n (M := mX3_opening) (pc := 40) dX3_opening_40 rfl ?_
  refine x_get (M := mX3_opening) (pc := 41) kcX3 0 rfl q2835 dX3_opening_41 hM.1 rfl ?_
  refine x_bipush (M := mX3_opening) (pc := 44) (v := nI 8) dX3_opening_44 (by decide) ?_
  refine xm_ialdV (M := mX3_opening) (pc := 46) hM dX3_opening_46 ((by rw [hB0]; exact h8 : _ = nI (zN (B 0) 8))) (by decide) (by first | decide | (simp only [mSz] <;> omega)) ?_
  refine x_V2 (M := mX3_opening) (pc := 47) (M' := mX3_shutBy) q3205 kVX3_shutBy dX3_opening_47 (m_shutBy (d - 1) _ _ _ hbk (zN (B 0) 7) (by rw [hB0]; exact h7) h7b (zN (B 0) 8) o h8b ho (by omega) h hM) (hM.is) (fun v_ h hq_ => ?_)
  obtain ⟨hv_, rfl⟩ := hq_; cases hv_
  refine x_istore3 (M := mX3_opening) (pc := 50) dX3_opening_50 ?_
  refine x_joinV 68 ((if o = 0 ∨ o = zN16 (B 0) then 1 else 2)) (fun J => ?_) ?_
  · refine x_iload_n (M := mX3_opening) (pc := 51) dX3_opening_51 rfl ?_
    first | with_reducible refine x_ifB_eq (M := mX3_opening) (pc := 52) 63 dX3_opening_52 (by decide) (fun c52 => ?_) (fun c52 => ?_) | with_reducible refine x_if_eqN (M := mX3_opening) (pc := 52) 63 dX3_opening_52 (by decide) (by omega) (fun c52 => ?_) (fun c52 => ?_) | refine x_if_eq (M := mX3_opening) (pc := 52) 63 dX3_opening_52 (by decide) (fun c52 => ?_) (fun c52 => ?_)
    · refine x_iconst (M := mX3_opening) (pc := 63) (v := nI 1) dX3_opening_63 (by decide) ?_
      refine x_goto (M := mX3_opening) (pc := 64) 68 dX3_opening_64 (by decide) ?_
      exact J _ (by first | (rw [if_pos (Or.inl c52)]; rfl) | (rw [if_pos (Or.inr c60)]; rfl) | (rw [if_neg (fun z => z.elim c52 c60)]; rfl))
    · refine x_iload_n (M := mX3_opening) (pc := 55) dX3_opening_55 rfl ?_
      refine x_aload_n (M := mX3_opening) (pc := 56) dX3_opening_56 rfl ?_
      refine x_get (M := mX3_opening) (pc := 57) kcX3 9 rfl q2844 dX3_opening_57 hM.1 rfl ?_
      refine x_val (M := mX3_opening) (pc := 60) (hbk.1) ?_
      first | with_reducible refine x_icmp_neN (M := mX3_opening) (pc := 60) 67 dX3_opening_60 (by decide) (by omega) (by omega) (fun c60 => ?_) (fun c60 => ?_) | refine x_icmp_ne (M := mX3_opening) (pc := 60) 67 dX3_opening_60 (by decide) (fun c60 => ?_) (fun c60 => ?_)
      · refine x_iconst (M := mX3_opening) (pc := 67) (v := nI 2) dX3_opening_67 (by decide) ?_
        exact J _ (by first | (rw [if_pos (Or.inl c52)]; rfl) | (rw [if_pos (Or.inr c60)]; rfl) | (rw [if_neg (fun z => z.elim c52 c60)]; rfl))
      · refine x_iconst (M := mX3_opening) (pc := 63) (v := nI 1) dX3_opening_63 (by decide) ?_
        refine x_goto (M := mX3_opening) (pc := 64) 68 dX3_opening_64 (by decide) ?_
        exact J _ (by first | (rw [if_pos (Or.inl c52)]; rfl) | (rw [if_pos (Or.inr c60)]; rfl) | (rw [if_neg (fun z => z.elim c52 c60)]; rfl))
  refine x_istore4 (M := mX3_opening) (pc := 68) dX3_opening_68 ?_
  have hzs : p_shut (zN (B 0) 8) (p_se (zN (B 0) 7)) (zWi (B 0)) (p_layn (zHi (B 0)) (zWi (B 0)) (zFo (B 0)) (zNf (B 0))).2.2.2 (zHi (B 0) * zWi (B 0)) o = zShut (B 0) o := rfl; rw [hzs]
  refine x_iload_n (M := mX3_opening) (pc := 70) dX3_opening_70 rfl ?_
  first | with_reducible refine x_ifB_ne (M := mX3_opening) (pc := 71) 86 dX3_opening_71 (by decide) (fun c71 => ?_) (fun c71 => ?_) | with_reducible refine x_if_neN (M := mX3_opening) (pc := 71) 86 dX3_opening_71 (by decide) (by omega) (fun c71 => ?_) (fun c71 => ?_) | refine x_if_ne (M := mX3_opening) (pc := 71) 86 dX3_opening_71 (by decide) (fun c71 => ?_) (fun c71 => ?_)
  · refine x_iload_n (M := mX3_opening) (pc := 86) dX3_opening_86 rfl ?_
    refine x_iconst (M := mX3_opening) (pc := 87) (v := nI 1) dX3_opening_87 (by decide) ?_
    first | with_reducible refine x_icmp_neN (M := mX3_opening) (pc := 88) 95 dX3_opening_88 (by decide) (by omega) (by omega) (fun c88 => ?_) (fun c88 => ?_) | refine x_icmp_ne (M := mX3_opening) (pc := 88) 95 dX3_opening_88 (by decide) (fun c88 => ?_) (fun c88 => ?_)
    · refine x_iload_n (M := mX3_opening) (pc := 95) dX3_opening_95 rfl ?_
      first | with_reducible refine x_ifB_ne (M := mX3_opening) (pc := 96) 112 dX3_opening_96 (by decide) (fun c96 => ?_) (fun c96 => ?_) | with_reducible refine x_if_neN (M := mX3_opening) (pc := 96) 112 dX3_opening_96 (by decide) (by omega) (fun c96 => ?_) (fun c96 => ?_) | refine x_if_ne (M := mX3_opening) (pc := 96) 112 dX3_opening_96 (by decide) (fun c96 => ?_) (fun c96 => ?_)
      · refine x_iconst (M := mX3_opening) (pc := 112) (v := nI 0) dX3_opening_112 (by decide) ?_
        refine x_iret (M := mX3_opening) (pc := 113) dX3_opening_113 rfl (Nat.le_refl 0) (Nat.le_refl 0) ⟨_, _, _, _, rfl, ?_, hM, hF⟩
        exact QF.lf (e0 _ (by first | (rw [if_pos c71, c75]; rfl) | (rw [if_pos c71, decide_eq_true c75]; rfl) | (rw [if_neg c71, if_pos c88]; done) | (rw [if_neg c71, if_neg c88, if_pos c96]; done) | (rw [if_neg c71, if_neg c88, if_neg c96]; rfl))) hL
      · refine x_iload (M := mX3_opening) (pc := 99) dX3_opening_99 rfl ?_
        refine x_aload_n (M := mX3_opening) (pc := 101) dX3_opening_101 rfl ?_
        refine x_get (M := mX3_opening) (pc := 102) kcX3 0 rfl q2835 dX3_opening_102 hM.1 rfl ?_
        refine x_bipush (M := mX3_opening) (pc := 105) (v := nI 11) dX3_opening_105 (by decide) ?_
        refine xm_ialdV (M := mX3_opening) (pc := 107) hM dX3_opening_107 ((by rw [hB0] : _ = B 0 11)) (by decide) (by first | decide | (simp only [mSz] <;> omega)) ?_
        first | with_reducible refine x_imulN (M := mX3_opening) (pc := 108) dX3_opening_108 ?_ | refine x_imul (M := mX3_opening) (pc := 108) dX3_opening_108 ?_
        refine x_goto (M := mX3_opening) (pc := 109) 113 dX3_opening_109 (by decide) ?_
        refine x_iret (M := mX3_opening) (pc := 113) dX3_opening_113 rfl (Nat.le_refl 0) (Nat.le_refl 0) ⟨_, _, _, _, rfl, ?_, hM, hF⟩
        exact QF.lf (e0 _ (by first | (rw [if_pos c71, c75]; rfl) | (rw [if_pos c71, decide_eq_true c75]; rfl) | (rw [if_neg c71, if_pos c88]; done) | (rw [if_neg c71, if_neg c88, if_pos c96]; done) | (rw [if_neg c71, if_neg c88, if_neg c96]; rfl))) hL
    · refine x_iload_n (M := mX3_opening) (pc := 91) dX3_opening_91 rfl ?_
      refine x_goto (M := mX3_opening) (pc := 92) 113 dX3_opening_92 (by decide) ?_
      refine x_iret (M := mX3_opening) (pc := 113) dX3_opening_113 rfl (Nat.le_refl 0) (Nat.le_refl 0) ⟨_, _, _, _, rfl, ?_, hM, hF⟩
      exact QF.lf (e0 _ (by first | (rw [if_pos c71, c75]; rfl) | (rw [if_pos c71, decide_eq_true c75]; rfl) | (rw [if_neg c71, if_pos c88]; done) | (rw [if_neg c71, if_neg c88, if_pos c96]; done) | (rw [if_neg c71, if_neg c88, if_neg c96]; rfl))) hL
  · refine x_iload_n (M := mX3_opening) (pc := 74) dX3_opening_74 rfl ?_
    first | with_reducible refine x_ifB_ne (M := mX3_opening) (pc := 75) 82 dX3_opening_75 (by decide) (fun c75 => ?_) (fun c75 => ?_) | with_reducible refine x_if_neN (M := mX3_opening) (pc := 75) 82 dX3_opening_75 (by decide) (by omega) (fun c75 => ?_) (fun c75 => ?_) | refine x_if_ne (M := mX3_opening) (pc := 75) 82 dX3_opening_75 (by decide) (fun c75 => ?_) (fun c75 => ?_)
    · refine x_iconst (M := mX3_opening) (pc := 82) (v := nI 1) dX3_opening_82 (by decide) ?_
      refine x_goto (M := mX3_opening) (pc := 83) 113 dX3_opening_83 (by decide) ?_
      refine x_iret (M := mX3_opening) (pc := 113) dX3_opening_113 rfl (Nat.le_refl 0) (Nat.le_refl 0) ⟨_, _, _, _, rfl, ?_, hM, hF⟩
      exact QF.lf (e0 _ (by first | (rw [if_pos c71, c75]; rfl) | (rw [if_pos c71, decide_eq_true c75]; rfl) | (rw [if_neg c71, if_pos c88]; done) | (rw [if_neg c71, if_neg c88, if_pos c96]; done) | (rw [if_neg c71, if_neg c88, if_neg c96]; rfl))) hL
    · refine x_iconst (M := mX3_opening) (pc := 78) (v := nI 0) dX3_opening_78 (by decide) ?_
      refine x_goto (M := mX3_opening) (pc := 79) 113 dX3_opening_79 (by decide) ?_
      refine x_iret (M := mX3_opening) (pc := 113) dX3_opening_113 rfl (Nat.le_refl 0) (Nat.le_refl 0) ⟨_, _, _, _, rfl, ?_, hM, hF⟩
      exact QF.lf (e0 _ (by first | (rw [if_pos c71, c75]; rfl) | (rw [if_pos c71, decide_eq_true c75]; rfl) | (rw [if_neg c71, if_pos c88]; done) | (rw [if_neg c71, if_neg c88, if_pos c96]; done) | (rw [if_neg c71, if_neg c88, if_neg c96]; rfl))) hL
end MODELE

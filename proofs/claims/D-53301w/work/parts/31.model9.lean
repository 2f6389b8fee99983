section MODEL9
set_option maxRecDepth 100000
variable {g : xG} {l : Launch} {m : Nat} {A : Nat → Nat} {I : Nat → Int32} {B : Nat → Nat → Int32} {wd : Int64}
theorem m_inB (h : xH) (v lo hi : Int32) (Lo Hi : Int64) (e1 : lo.toInt64 = Lo) (e2 : hi.toInt64 = Hi) (d : Nat) : Ct g l mX3_in d 0 0 [.long v.toInt64, .long Lo, .long Hi] h (fun o h' => o = .inl (some (.int (bI (bIn v lo hi)))) ∧ h' = h) := m_inI h v lo hi Lo Hi e1 e2 d
theorem m_setLegs (d u : Nat) (hu : u ≤ 5) (hU : I 3 = nI u) (r : Bool) (hr : I 6 = bI r) (hd : 2 ≤ d) (x : Int32) : MC g l mX3_setLegs d [.int x] m A I B wd (ACT r u I B wd (c_setLegs (B 0) x)) := by
  intro h hM
  have hF : MF m A h h := MF.rf
  refine Ct.of [some (.ref m), some (.int x), none] (by decide +kernel) rfl (Nat.le_of_ble_eq_true rfl) rfl rfl ?_
  refine x_iload_n (M := mX3_setLegs) (pc := 0) dX3_setLegs_0 rfl ?_
  refine x_i2l (M := mX3_setLegs) (pc := 1) dX3_setLegs_1 ?_
  refine x_lconst (M := mX3_setLegs) (pc := 2) (v := 1) dX3_setLegs_2 (by decide) ?_
  refine x_ldc2 (M := mX3_setLegs) (pc := 3) dX3_setLegs_3 q3054 ?_
  refine x_S3 (M := mX3_setLegs) (pc := 6) (M' := mX3_in) q2949 kSX3_in dX3_setLegs_6 (m_inB h x 1 16 1 16 (by decide) (by decide) (d - 1)) (fun v_ h hq_ => ?_)
  obtain ⟨hv_, rfl⟩ := hq_; cases hv_
  first | with_reducible refine x_ifB_ne (M := mX3_setLegs) (pc := 9) 14 dX3_setLegs_9 (by decide) (fun c9 => ?_) (fun c9 => ?_) | with_reducible refine x_if_neN (M := mX3_setLegs) (pc := 9) 14 dX3_setLegs_9 (by decide) (by omega) (fun c9 => ?_) (fun c9 => ?_) | refine x_if_ne (M := mX3_setLegs) (pc := 9) 14 dX3_setLegs_9 (by decide) (fun c9 => ?_) (fun c9 => ?_)
  · refine x_aload_n (M := mX3_setLegs) (pc := 14) dX3_setLegs_14 rfl ?_
    refine x_V0 (M := mX3_setLegs) (pc := 15) (M' := mX3_act) q2936 kVX3_act dX3_setLegs_15 (m_actR (d - 1) u hu hU r hr (by omega) h hM) (hM.is) (fun v_ h hq_ => ?_)
    obtain ⟨v_, I_, B_, wd_, hv_, hQ, hM_, hF_⟩ := hq_
    cases hv_
    replace hF := hF.tr hF_
    replace hM := hM_
    clear hM_ hF_
    obtain ⟨rfl, hR, hw⟩ := hQ; have hb0 := hR.2.1 0 (by omega)
    refine x_aload_n (M := mX3_setLegs) (pc := 18) dX3_setLegs_18 rfl ?_
    refine x_get (M := mX3_setLegs) (pc := 19) kcX3 0 rfl q2835 dX3_setLegs_19 hM.1 rfl ?_
    refine x_bipush (M := mX3_setLegs) (pc := 22) (v := nI 10) dX3_setLegs_22 (by decide) ?_
    refine xm_ialdV (M := mX3_setLegs) (pc := 24) hM dX3_setLegs_24 ((by rw [hb0] : _ = B 0 10)) (by decide) (by first | decide | (simp only [mSz] <;> omega)) ?_
    refine x_istore2 (M := mX3_setLegs) (pc := 25) dX3_setLegs_25 ?_
    refine x_aload_n (M := mX3_setLegs) (pc := 26) dX3_setLegs_26 rfl ?_
    refine x_get (M := mX3_setLegs) (pc := 27) kcX3 0 rfl q2835 dX3_setLegs_27 hM.1 rfl ?_
    refine x_bipush (M := mX3_setLegs) (pc := 30) (v := nI 10) dX3_setLegs_30 (by decide) ?_
    refine x_iload_n (M := mX3_setLegs) (pc := 32) dX3_setLegs_32 rfl ?_
    refine xm_iast (M := mX3_setLegs) (pc := 33) hM hF dX3_setLegs_33 (by decide) (by first | decide | (simp only [mSz] <;> omega)) (fun h hM hF => ?_)
    refine x_iload_n (M := mX3_setLegs) (pc := 34) dX3_setLegs_34 rfl ?_
    refine x_iret (M := mX3_setLegs) (pc := 35) dX3_setLegs_35 rfl (Nat.le_refl 0) (Nat.le_refl 0) ⟨_, _, _, _, rfl, ?_, hM, hF⟩
    exact act_ok (by simp only [c_setLegs, c9]; rfl) LF.rf hR hw (by simp only [va_up_s, hb0]) (fun j hj => by simp only [va_up_n _ _ hj])
  · refine x_iconst (M := mX3_setLegs) (pc := 12) (v := (-1)) dX3_setLegs_12 (by decide) ?_
    refine x_iret (M := mX3_setLegs) (pc := 13) dX3_setLegs_13 rfl (Nat.le_refl 0) (Nat.le_refl 0) ⟨_, _, _, _, rfl, ?_, hM, hF⟩
    exact act_err (by simp [c_setLegs, *]) LF.rf
theorem m_setLines (d u : Nat) (hu : u ≤ 5) (hU : I 3 = nI u) (r : Bool) (hr : I 6 = bI r) (hd : 2 ≤ d) (x : Int32) : MC g l mX3_setLines d [.int x] m A I B wd (ACT r u I B wd (c_setLines (B 0) x)) := by
  intro h hM
  have hF : MF m A h h := MF.rf
  refine Ct.of [some (.ref m), some (.int x), none] (by decide +kernel) rfl (Nat.le_of_ble_eq_true rfl) rfl rfl ?_
  refine x_iload_n (M := mX3_setLines) (pc := 0) dX3_setLines_0 rfl ?_
  refine x_i2l (M := mX3_setLines) (pc := 1) dX3_setLines_1 ?_
  refine x_lconst (M := mX3_setLines) (pc := 2) (v := 1) dX3_setLines_2 (by decide) ?_
  refine x_ldc2 (M := mX3_setLines) (pc := 3) dX3_setLines_3 q3042 ?_
  refine x_S3 (M := mX3_setLines) (pc := 6) (M' := mX3_in) q2949 kSX3_in dX3_setLines_6 (m_inB h x 1 9 1 9 (by decide) (by decide) (d - 1)) (fun v_ h hq_ => ?_)
  obtain ⟨hv_, rfl⟩ := hq_; cases hv_
  first | with_reducible refine x_ifB_ne (M := mX3_setLines) (pc := 9) 14 dX3_setLines_9 (by decide) (fun c9 => ?_) (fun c9 => ?_) | with_reducible refine x_if_neN (M := mX3_setLines) (pc := 9) 14 dX3_setLines_9 (by decide) (by omega) (fun c9 => ?_) (fun c9 => ?_) | refine x_if_ne (M := mX3_setLines) (pc := 9) 14 dX3_setLines_9 (by decide) (fun c9 => ?_) (fun c9 => ?_)
  · refine x_aload_n (M := mX3_setLines) (pc := 14) dX3_setLines_14 rfl ?_
    refine x_V0 (M := mX3_setLines) (pc := 15) (M' := mX3_act) q2936 kVX3_act dX3_setLines_15 (m_actR (d - 1) u hu hU r hr (by omega) h hM) (hM.is) (fun v_ h hq_ => ?_)
    obtain ⟨v_, I_, B_, wd_, hv_, hQ, hM_, hF_⟩ := hq_
    cases hv_
    replace hF := hF.tr hF_
    replace hM := hM_
    clear hM_ hF_
    obtain ⟨rfl, hR, hw⟩ := hQ; have hb0 := hR.2.1 0 (by omega)
    refine x_aload_n (M := mX3_setLines) (pc := 18) dX3_setLines_18 rfl ?_
    refine x_get (M := mX3_setLines) (pc := 19) kcX3 0 rfl q2835 dX3_setLines_19 hM.1 rfl ?_
    refine x_bipush (M := mX3_setLines) (pc := 22) (v := nI 11) dX3_setLines_22 (by decide) ?_
    refine xm_ialdV (M := mX3_setLines) (pc := 24) hM dX3_setLines_24 ((by rw [hb0] : _ = B 0 11)) (by decide) (by first | decide | (simp only [mSz] <;> omega)) ?_
    refine x_istore2 (M := mX3_setLines) (pc := 25) dX3_setLines_25 ?_
    refine x_aload_n (M := mX3_setLines) (pc := 26) dX3_setLines_26 rfl ?_
    refine x_get (M := mX3_setLines) (pc := 27) kcX3 0 rfl q2835 dX3_setLines_27 hM.1 rfl ?_
    refine x_bipush (M := mX3_setLines) (pc := 30) (v := nI 11) dX3_setLines_30 (by decide) ?_
    refine x_iload_n (M := mX3_setLines) (pc := 32) dX3_setLines_32 rfl ?_
    refine xm_iast (M := mX3_setLines) (pc := 33) hM hF dX3_setLines_33 (by decide) (by first | decide | (simp only [mSz] <;> omega)) (fun h hM hF => ?_)
    refine x_iload_n (M := mX3_setLines) (pc := 34) dX3_setLines_34 rfl ?_
    refine x_iret (M := mX3_setLines) (pc := 35) dX3_setLines_35 rfl (Nat.le_refl 0) (Nat.le_refl 0) ⟨_, _, _, _, rfl, ?_, hM, hF⟩
    exact act_ok (by simp only [c_setLines, c9]; rfl) LF.rf hR hw (by simp only [va_up_s, hb0]) (fun j hj => by simp only [va_up_n _ _ hj])
  · refine x_iconst (M := mX3_setLines) (pc := 12) (v := (-1)) dX3_setLines_12 (by decide) ?_
    refine x_iret (M := mX3_setLines) (pc := 13) dX3_setLines_13 rfl (Nat.le_refl 0) (Nat.le_refl 0) ⟨_, _, _, _, rfl, ?_, hM, hF⟩
    exact act_err (by simp [c_setLines, *]) LF.rf
theorem m_forget (d u : Nat) (hu : u ≤ 5) (hU : I 3 = nI u) (r : Bool) (hr : I 6 = bI r) (hd : 2 ≤ d) : MC g l mX3_forget d [] m A I B wd (ACT r u I B wd (c_forget (B 0))) := by
  intro h hM
  have hF : MF m A h h := MF.rf
  refine Ct.of [some (.ref m), none] (by decide +kernel) rfl (Nat.le_of_ble_eq_true rfl) rfl rfl ?_
  refine x_aload_n (M := mX3_forget) (pc := 0) dX3_forget_0 rfl ?_
  refine x_V0 (M := mX3_forget) (pc := 1) (M' := mX3_act) q2936 kVX3_act dX3_forget_1 (m_actR (d - 1) u hu hU r hr (by omega) h hM) (hM.is) (fun v_ h hq_ => ?_)
  obtain ⟨v_, I_, B_, wd_, hv_, hQ, hM_, hF_⟩ := hq_
  cases hv_
  replace hF := hF.tr hF_
  replace hM := hM_
  clear hM_ hF_
  obtain ⟨rfl, hR, hw⟩ := hQ; have hb0 := hR.2.1 0 (by omega)
  refine x_aload_n (M := mX3_forget) (pc := 4) dX3_forget_4 rfl ?_
  refine x_get (M := mX3_forget) (pc := 5) kcX3 0 rfl q2835 dX3_forget_5 hM.1 rfl ?_
  refine x_bipush (M := mX3_forget) (pc := 8) (v := nI 12) dX3_forget_8 (by decide) ?_
  refine xm_ialdV (M := mX3_forget) (pc := 10) hM dX3_forget_10 ((by rw [hb0] : _ = B 0 12)) (by decide) (by first | decide | (simp only [mSz] <;> omega)) ?_
  refine x_istore1 (M := mX3_forget) (pc := 11) dX3_forget_11 ?_
  refine x_aload_n (M := mX3_forget) (pc := 12) dX3_forget_12 rfl ?_
  refine x_get (M := mX3_forget) (pc := 13) kcX3 0 rfl q2835 dX3_forget_13 hM.1 rfl ?_
  refine x_bipush (M := mX3_forget) (pc := 16) (v := nI 12) dX3_forget_16 (by decide) ?_
  refine x_iconst (M := mX3_forget) (pc := 18) (v := nI 0) dX3_forget_18 (by decide) ?_
  refine xm_iast (M := mX3_forget) (pc := 19) hM hF dX3_forget_19 (by decide) (by first | decide | (simp only [mSz] <;> omega)) (fun h hM hF => ?_)
  refine x_iload_n (M := mX3_forget) (pc := 20) dX3_forget_20 rfl ?_
  refine x_iret (M := mX3_forget) (pc := 21) dX3_forget_21 rfl (Nat.le_refl 0) (Nat.le_refl 0) ⟨_, _, _, _, rfl, ?_, hM, hF⟩
  exact act_ok rfl LF.rf hR hw (by simp only [va_up_s, hb0]; rfl) (fun j hj => by simp only [va_up_n _ _ hj])
theorem m_setSpine (d u : Nat) (hu : u ≤ 5) (hU : I 3 = nI u) (r : Bool) (hr : I 6 = bI r) (hd : 2 ≤ d) (x : Int32) : MC g l mX3_setSpine d [.int x] m A I B wd (ACT r u I B wd (c_setSpine (B 0) x)) := by
  intro h hM
  have hF : MF m A h h := MF.rf
  refine Ct.of [some (.ref m), some (.int x), none] (by decide +kernel) rfl (Nat.le_of_ble_eq_true rfl) rfl rfl ?_
  refine x_iload_n (M := mX3_setSpine) (pc := 0) dX3_setSpine_0 rfl ?_
  refine x_i2l (M := mX3_setSpine) (pc := 1) dX3_setSpine_1 ?_
  refine x_lconst (M := mX3_setSpine) (pc := 2) (v := 0) dX3_setSpine_2 (by decide) ?_
  refine x_lconst (M := mX3_setSpine) (pc := 3) (v := 1) dX3_setSpine_3 (by decide) ?_
  refine x_S3 (M := mX3_setSpine) (pc := 4) (M' := mX3_in) q2949 kSX3_in dX3_setSpine_4 (m_inB h x 0 1 0 1 (by decide) (by decide) (d - 1)) (fun v_ h hq_ => ?_)
  obtain ⟨hv_, rfl⟩ := hq_; cases hv_
  first | with_reducible refine x_ifB_ne (M := mX3_setSpine) (pc := 7) 12 dX3_setSpine_7 (by decide) (fun c7 => ?_) (fun c7 => ?_) | with_reducible refine x_if_neN (M := mX3_setSpine) (pc := 7) 12 dX3_setSpine_7 (by decide) (by omega) (fun c7 => ?_) (fun c7 => ?_) | refine x_if_ne (M := mX3_setSpine) (pc := 7) 12 dX3_setSpine_7 (by decide) (fun c7 => ?_) (fun c7 => ?_)
  · refine x_aload_n (M := mX3_setSpine) (pc := 12) dX3_setSpine_12 rfl ?_
    refine x_get (M := mX3_setSpine) (pc := 13) kcX3 0 rfl q2835 dX3_setSpine_13 hM.1 rfl ?_
    refine x_bipush (M := mX3_setSpine) (pc := 16) (v := nI 9) dX3_setSpine_16 (by decide) ?_
    refine xm_iald (M := mX3_setSpine) (pc := 18) hM dX3_setSpine_18 (by decide) (by first | decide | (simp only [mSz] <;> omega)) ?_
    refine x_if_eq (M := mX3_setSpine) (pc := 19) 25 dX3_setSpine_19 (by decide) (fun r_c => ?_) (fun r_c => ?_)
    · refine x_aload_n (M := mX3_setSpine) (pc := 25) dX3_setSpine_25 rfl ?_
      refine x_V0 (M := mX3_setSpine) (pc := 26) (M' := mX3_act) q2936 kVX3_act dX3_setSpine_26 (m_actR (d - 1) u hu hU r hr (by omega) h hM) (hM.is) (fun v_ h hq_ => ?_)
      obtain ⟨v_, I_, B_, wd_, hv_, hQ, hM_, hF_⟩ := hq_
      cases hv_
      replace hF := hF.tr hF_
      replace hM := hM_
      clear hM_ hF_
      obtain ⟨rfl, hR, hw⟩ := hQ; have hb0 := hR.2.1 0 (by omega)
      refine x_aload_n (M := mX3_setSpine) (pc := 29) dX3_setSpine_29 rfl ?_
      refine x_get (M := mX3_setSpine) (pc := 30) kcX3 0 rfl q2835 dX3_setSpine_30 hM.1 rfl ?_
      refine x_bipush (M := mX3_setSpine) (pc := 33) (v := nI 7) dX3_setSpine_33 (by decide) ?_
      refine xm_ialdV (M := mX3_setSpine) (pc := 35) hM dX3_setSpine_35 ((by rw [hb0] : _ = B 0 7)) (by decide) (by first | decide | (simp only [mSz] <;> omega)) ?_
      refine x_istore2 (M := mX3_setSpine) (pc := 36) dX3_setSpine_36 ?_
      refine x_aload_n (M := mX3_setSpine) (pc := 37) dX3_setSpine_37 rfl ?_
      refine x_get (M := mX3_setSpine) (pc := 38) kcX3 0 rfl q2835 dX3_setSpine_38 hM.1 rfl ?_
      refine x_bipush (M := mX3_setSpine) (pc := 41) (v := nI 7) dX3_setSpine_41 (by decide) ?_
      refine x_iload_n (M := mX3_setSpine) (pc := 43) dX3_setSpine_43 rfl ?_
      refine xm_iast (M := mX3_setSpine) (pc := 44) hM hF dX3_setSpine_44 (by decide) (by first | decide | (simp only [mSz] <;> omega)) (fun h hM hF => ?_)
      refine x_iload_n (M := mX3_setSpine) (pc := 45) dX3_setSpine_45 rfl ?_
      refine x_iret (M := mX3_setSpine) (pc := 46) dX3_setSpine_46 rfl (Nat.le_refl 0) (Nat.le_refl 0) ⟨_, _, _, _, rfl, ?_, hM, hF⟩
      exact act_ok (by simp [c_setSpine, *]; rfl) LF.rf hR hw (by simp only [va_up_s, hb0]) (fun j hj => by simp only [va_up_n _ _ hj])
    · refine x_bipush (M := mX3_setSpine) (pc := 22) (v := (-2)) dX3_setSpine_22 (by decide) ?_
      refine x_iret (M := mX3_setSpine) (pc := 24) dX3_setSpine_24 rfl (Nat.le_refl 0) (Nat.le_refl 0) ⟨_, _, _, _, rfl, ?_, hM, hF⟩
      exact act_err (by simp [c_setSpine, *]) LF.rf
  · refine x_iconst (M := mX3_setSpine) (pc := 10) (v := (-1)) dX3_setSpine_10 (by decide) ?_
    refine x_iret (M := mX3_setSpine) (pc := 11) dX3_setSpine_11 rfl (Nat.le_refl 0) (Nat.le_refl 0) ⟨_, _, _, _, rfl, ?_, hM, hF⟩
    exact act_err (by simp [c_setSpine, *]) LF.rf
theorem c_fold_2 {s : Row} {f : Int32} (h : bIn f 1 4 = true) (h2 : zMay s f.toNatClampNeg = false ∨ zHeld s = true) : c_fold s f = .inl (-2) := by
  unfold c_fold; rw [if_neg (by rw [h]; decide), if_pos h2]
theorem c_fold_3 {s : Row} {f : Int32} (h : bIn f 1 4 = true) (h2 : zMay s f.toNatClampNeg = true) (h3 : zHeld s = false) : c_fold s f = .inr (nI (2 * 2 ^ zNf s), upd (upd (upd s 86 (s 86 + nI (2 ^ zNf s))) (3 + zNf s) f) 2 (nI (zNf s + 1))) := by
  unfold c_fold; rw [if_neg (by rw [h]; decide), if_neg (by rw [h2, h3]; decide)]
theorem m_fold (d u : Nat) (hu : u ≤ 5) (hU : I 3 = nI u) (r : Bool) (hr : I 6 = bI r) (hd : 4 ≤ d) (hW : WF (B 0)) (x : Int32) : MC g l mX3_fold d [.int x] m A I B wd (ACT r u I B wd (c_fold (B 0) x)) := by
  intro h hM
  have hF : MF m A h h := MF.rf
  have hn := p_cans_le hW.1.2.2.2.2.1 hW.1.2.2.2.2.2
  have hlo := p_ok_b (p_layn_ok hW.1.2.2.2.2.1 _ hW.1.2.2.2.2.2).1
  have h2 : B 0 2 = nI (zNf (B 0)) := hW.1.2.2.1
  have hma : (zLay (B 0)).2.2.1 = 2 ^ zNf (B 0) := p_layn_ma _ _ _ _
  refine Ct.of [some (.ref m), some (.int x)] (by decide +kernel) rfl (Nat.le_of_ble_eq_true rfl) rfl rfl ?_
  refine x_iload_n (M := mX3_fold) (pc := 0) dX3_fold_0 rfl ?_
  refine x_i2l (M := mX3_fold) (pc := 1) dX3_fold_1 ?_
  refine x_lconst (M := mX3_fold) (pc := 2) (v := 1) dX3_fold_2 (by decide) ?_
  refine x_ldc2 (M := mX3_fold) (pc := 3) dX3_fold_3 q2948 ?_
  refine x_S3 (M := mX3_fold) (pc := 6) (M' := mX3_in) q2949 kSX3_in dX3_fold_6 (m_inB h x 1 4 1 4 (by decide) (by decide) (d - 1)) (fun v_ h hq_ => ?_)
  obtain ⟨hv_, rfl⟩ := hq_; cases hv_
  first | with_reducible refine x_ifB_ne (M := mX3_fold) (pc := 9) 14 dX3_fold_9 (by decide) (fun c9 => ?_) (fun c9 => ?_) | with_reducible refine x_if_neN (M := mX3_fold) (pc := 9) 14 dX3_fold_9 (by decide) (by omega) (fun c9 => ?_) (fun c9 => ?_) | refine x_if_ne (M := mX3_fold) (pc := 9) 14 dX3_fold_9 (by decide) (fun c9 => ?_) (fun c9 => ?_)
  · obtain ⟨n, rfl, hn1, hn2⟩ := bIn_n (a := 1) (b := 4) (by omega) (by omega) c9; have hcl : (nI n).toNatClampNeg = n := nI_clamp (by omega)
    refine x_aload_n (M := mX3_fold) (pc := 14) dX3_fold_14 rfl ?_
    refine x_V0 (M := mX3_fold) (pc := 15) (M' := mX3_layNow) q2952 kVX3_layNow dX3_fold_15 (m_layNow (d - 1) _ _ _ _ (by omega) hW.1 h hM) (hM.is) (fun v_ h hq_ => ?_)
    obtain ⟨v_, I_, B_, wd_, hv_, hQ, hM_, hF_⟩ := hq_
    cases hv_
    replace hF := hF.tr hF_
    replace hM := hM_
    clear hM_ hF_
    obtain ⟨rfl, hL, hY⟩ := hQ; have hB0 := hL.2.1 0 (by omega); have hI3 := (hL.1 3 (by omega) (by omega) (by omega)).trans hU; have hI6 := (hL.1 6 (by omega) (by omega) (by omega)).trans hr
    refine x_aload_n (M := mX3_fold) (pc := 18) dX3_fold_18 rfl ?_
    refine x_iload_n (M := mX3_fold) (pc := 19) dX3_fold_19 rfl ?_
    refine x_V1 (M := mX3_fold) (pc := 20) (M' := mX3_mayFold) q2968 kVX3_mayFold dX3_fold_20 (m_mayFold (d - 1) n _ _ (by omega) ⟨by omega, by omega⟩ hY.1 hY.2.1 h hM) (hM.is) (fun v_ h hq_ => ?_)
    obtain ⟨v_, I_, B_, wd_, hv_, hQ, hM_, hF_⟩ := hq_
    cases hv_
    replace hF := hF.tr hF_
    replace hM := hM_
    clear hM_ hF_
    obtain ⟨e1_, e2_, e3_, e4_⟩ := hQ; rw [e2_, e3_, e4_] at hM; subst e1_; clear e2_ e3_ e4_
    first | with_reducible refine x_ifB_eq (M := mX3_fold) (pc := 23) 33 dX3_fold_23 (by decide) (fun c23 => ?_) (fun c23 => ?_) | with_reducible refine x_if_eqN (M := mX3_fold) (pc := 23) 33 dX3_fold_23 (by decide) (by omega) (fun c23 => ?_) (fun c23 => ?_) | refine x_if_eq (M := mX3_fold) (pc := 23) 33 dX3_fold_23 (by decide) (fun c23 => ?_) (fun c23 => ?_)
    · refine x_bipush (M := mX3_fold) (pc := 33) (v := (-2)) dX3_fold_33 (by decide) ?_
      refine x_iret (M := mX3_fold) (pc := 35) dX3_fold_35 rfl (Nat.le_refl 0) (Nat.le_refl 0) ⟨_, _, _, _, rfl, ?_, hM, hF⟩
      exact act_err (c_fold_2 c9 (by rw [hcl]; first | exact Or.inl c23 | exact Or.inr (by rw [hB0] at c30; exact c30))) hL
    · refine x_aload_n (M := mX3_fold) (pc := 26) dX3_fold_26 rfl ?_
      refine x_V0 (M := mX3_fold) (pc := 27) (M' := mX3_isHeld) q2972 kVX3_isHeld dX3_fold_27 (m_isHeld (d - 1) h hM) (hM.is) (fun v_ h hq_ => ?_)
      obtain ⟨v_, I_, B_, wd_, hv_, hQ, hM_, hF_⟩ := hq_
      cases hv_
      replace hF := hF.tr hF_
      replace hM := hM_
      clear hM_ hF_
      obtain ⟨e1_, e2_, e3_, e4_⟩ := hQ; rw [e2_, e3_, e4_] at hM; subst e1_; clear e2_ e3_ e4_
      first | with_reducible refine x_ifB_eq (M := mX3_fold) (pc := 30) 36 dX3_fold_30 (by decide) (fun c30 => ?_) (fun c30 => ?_) | with_reducible refine x_if_eqN (M := mX3_fold) (pc := 30) 36 dX3_fold_30 (by decide) (by omega) (fun c30 => ?_) (fun c30 => ?_) | refine x_if_eq (M := mX3_fold) (pc := 30) 36 dX3_fold_30 (by decide) (fun c30 => ?_) (fun c30 => ?_)
      · refine x_aload_n (M := mX3_fold) (pc := 36) dX3_fold_36 rfl ?_
        refine x_V0 (M := mX3_fold) (pc := 37) (M' := mX3_act) q2936 kVX3_act dX3_fold_37 (m_actR (d - 1) u hu hI3 r hI6 (by omega) h hM) (hM.is) (fun v_ h hq_ => ?_)
        obtain ⟨v_, I_, B_, wd_, hv_, hQ, hM_, hF_⟩ := hq_
        cases hv_
        replace hF := hF.tr hF_
        replace hM := hM_
        clear hM_ hF_
        obtain ⟨rfl, hR, hw⟩ := hQ; have hb0 := (hR.2.1 0 (by omega)).trans hB0; have h2' : B_ 0 2 = nI (zNf (B 0)) := by rw [hb0]; exact h2
        refine x_aload_n (M := mX3_fold) (pc := 40) dX3_fold_40 rfl ?_
        refine x_get (M := mX3_fold) (pc := 41) kcX3 0 rfl q2835 dX3_fold_41 hM.1 rfl ?_
        refine x_bipush (M := mX3_fold) (pc := 44) (v := nI 86) dX3_fold_44 (by decide) ?_
        refine x_dup2 (M := mX3_fold) (pc := 46) dX3_fold_46 ?_
        refine xm_iald (M := mX3_fold) (pc := 47) hM dX3_fold_47 (by decide) (by first | decide | (simp only [mSz] <;> omega)) ?_
        refine x_aload_n (M := mX3_fold) (pc := 48) dX3_fold_48 rfl ?_
        refine x_get (M := mX3_fold) (pc := 49) kcX3 9 rfl q2844 dX3_fold_49 hM.1 rfl ?_
        refine x_val (M := mX3_fold) (pc := 52) (((hR.1 9 (by omega)).trans (hY.2.2.1.trans (congrArg nI hma)))) ?_
        first | with_reducible refine x_iaddN (M := mX3_fold) (pc := 52) dX3_fold_52 ?_ | refine x_iadd (M := mX3_fold) (pc := 52) dX3_fold_52 ?_
        refine xm_iast (M := mX3_fold) (pc := 53) hM hF dX3_fold_53 (by decide) (by first | decide | (simp only [mSz] <;> omega)) (fun h hM hF => ?_)
        refine x_aload_n (M := mX3_fold) (pc := 54) dX3_fold_54 rfl ?_
        refine x_get (M := mX3_fold) (pc := 55) kcX3 0 rfl q2835 dX3_fold_55 hM.1 rfl ?_
        refine x_iconst (M := mX3_fold) (pc := 58) (v := nI 3) dX3_fold_58 (by decide) ?_
        refine x_aload_n (M := mX3_fold) (pc := 59) dX3_fold_59 rfl ?_
        refine x_get (M := mX3_fold) (pc := 60) kcX3 0 rfl q2835 dX3_fold_60 hM.1 rfl ?_
        refine x_iconst (M := mX3_fold) (pc := 63) (v := nI 2) dX3_fold_63 (by decide) ?_
        refine xm_ialdV (M := mX3_fold) (pc := 64) hM dX3_fold_64 ((by simp [va_up, upd, h2'] : _ = nI (zNf (B 0)))) (by decide) (by first | decide | (simp only [mSz] <;> omega)) ?_
        first | with_reducible refine x_iaddN (M := mX3_fold) (pc := 65) dX3_fold_65 ?_ | refine x_iadd (M := mX3_fold) (pc := 65) dX3_fold_65 ?_
        refine x_iload_n (M := mX3_fold) (pc := 66) dX3_fold_66 rfl ?_
        refine xm_iast (M := mX3_fold) (pc := 67) hM hF dX3_fold_67 (by decide) (by first | decide | (simp only [mSz] <;> omega)) (fun h hM hF => ?_)
        refine x_aload_n (M := mX3_fold) (pc := 68) dX3_fold_68 rfl ?_
        refine x_get (M := mX3_fold) (pc := 69) kcX3 0 rfl q2835 dX3_fold_69 hM.1 rfl ?_
        refine x_iconst (M := mX3_fold) (pc := 72) (v := nI 2) dX3_fold_72 (by decide) ?_
        refine x_dup2 (M := mX3_fold) (pc := 73) dX3_fold_73 ?_
        refine xm_ialdV (M := mX3_fold) (pc := 74) hM dX3_fold_74 ((by simp only [va_up, upd, if_true]; rw [if_neg (by omega), if_neg (by omega)]; exact h2' : _ = nI (zNf (B 0)))) (by decide) (by first | decide | (simp only [mSz] <;> omega)) ?_
        refine x_iconst (M := mX3_fold) (pc := 75) (v := nI 1) dX3_fold_75 (by decide) ?_
        first | with_reducible refine x_iaddN (M := mX3_fold) (pc := 76) dX3_fold_76 ?_ | refine x_iadd (M := mX3_fold) (pc := 76) dX3_fold_76 ?_
        refine xm_iast (M := mX3_fold) (pc := 77) hM hF dX3_fold_77 (by decide) (by first | decide | (simp only [mSz] <;> omega)) (fun h hM hF => ?_)
        refine x_iconst (M := mX3_fold) (pc := 78) (v := nI 2) dX3_fold_78 (by decide) ?_
        refine x_aload_n (M := mX3_fold) (pc := 79) dX3_fold_79 rfl ?_
        refine x_get (M := mX3_fold) (pc := 80) kcX3 9 rfl q2844 dX3_fold_80 hM.1 rfl ?_
        refine x_val (M := mX3_fold) (pc := 83) (((hR.1 9 (by omega)).trans (hY.2.2.1.trans (congrArg nI hma)))) ?_
        first | with_reducible refine x_imulN (M := mX3_fold) (pc := 83) dX3_fold_83 ?_ | refine x_imul (M := mX3_fold) (pc := 83) dX3_fold_83 ?_
        refine x_iret (M := mX3_fold) (pc := 84) dX3_fold_84 rfl (Nat.le_refl 0) (Nat.le_refl 0) ⟨_, _, _, _, rfl, ?_, hM, hF⟩
        exact act_ok (c_fold_3 c9 (by rw [hcl]; exact c23) (by rw [hB0] at c30; exact c30)) hL hR hw (by simp only [va_up_s, hb0]) (fun j hj => by simp only [va_up_n _ _ hj])
      · refine x_bipush (M := mX3_fold) (pc := 33) (v := (-2)) dX3_fold_33 (by decide) ?_
        refine x_iret (M := mX3_fold) (pc := 35) dX3_fold_35 rfl (Nat.le_refl 0) (Nat.le_refl 0) ⟨_, _, _, _, rfl, ?_, hM, hF⟩
        exact act_err (c_fold_2 c9 (by rw [hcl]; first | exact Or.inl c23 | exact Or.inr (by rw [hB0] at c30; exact c30))) hL
  · refine x_iconst (M := mX3_fold) (pc := 12) (v := (-1)) dX3_fold_12 (by decide) ?_
    refine x_iret (M := mX3_fold) (pc := 13) dX3_fold_13 rfl (Nat.le_refl 0) (Nat.le_refl 0) ⟨_, _, _, _, rfl, ?_, hM, hF⟩
    exact act_err (by simp [c_fold, *]) LF.rf
theorem m_see (d u : Nat) (hu : u ≤ 5) (hU : I 3 = nI u) (r : Bool) (hr : I 6 = bI r) (hd : 2 ≤ d) (hW : WF (B 0)) (x y z : Int32) : MC g l mX3_see d [.int x, .int y, .int z] m A I B wd (ACT r u I B wd (c_see (B 0) x y z)) := by
  intro h hM
  have hF : MF m A h h := MF.rf
  obtain ⟨h12, h12b⟩ := hW.2.2.2.2.2.2.1
  refine Ct.of [some (.ref m), some (.int x), some (.int y), some (.int z), none] (by decide +kernel) rfl (Nat.le_of_ble_eq_true rfl) rfl rfl ?_
  refine x_iload_n (M := mX3_see) (pc := 0) dX3_see_0 rfl ?_
  refine x_i2l (M := mX3_see) (pc := 1) dX3_see_1 ?_
  refine x_lconst (M := mX3_see) (pc := 2) (v := 0) dX3_see_2 (by decide) ?_
  refine x_iconst (M := mX3_see) (pc := 3) (v := nI 2) dX3_see_3 (by decide) ?_
  refine x_aload_n (M := mX3_see) (pc := 4) dX3_see_4 rfl ?_
  refine x_V0 (M := mX3_see) (pc := 5) (M' := mX3_cells) q3006 kVX3_cells dX3_see_5 (m_cells (d - 1) h hM) (hM.is) (fun v_ h hq_ => ?_)
  obtain ⟨v_, I_, B_, wd_, hv_, hQ, hM_, hF_⟩ := hq_
  cases hv_
  replace hF := hF.tr hF_
  replace hM := hM_
  clear hM_ hF_
  obtain ⟨e1_, e2_, e3_, e4_⟩ := hQ; rw [e2_, e3_, e4_] at hM; subst e1_; clear e2_ e3_ e4_
  first | with_reducible refine x_imulN (M := mX3_see) (pc := 8) dX3_see_8 ?_ | refine x_imul (M := mX3_see) (pc := 8) dX3_see_8 ?_
  refine x_iconst (M := mX3_see) (pc := 9) (v := nI 1) dX3_see_9 (by decide) ?_
  first | with_reducible refine x_isubN (M := mX3_see) (pc := 10) dX3_see_10 (by omega) ?_ | refine x_isub (M := mX3_see) (pc := 10) dX3_see_10 ?_
  refine x_i2l (M := mX3_see) (pc := 11) dX3_see_11 ?_
  refine x_S3 (M := mX3_see) (pc := 12) (M' := mX3_in) q2949 kSX3_in dX3_see_12 (m_inB h x 0 (2 * (B 0 0 * B 0 1) - 1) 0 _ (by decide) rfl (d - 1)) (fun v_ h hq_ => ?_)
  obtain ⟨hv_, rfl⟩ := hq_; cases hv_
  first | with_reducible refine x_ifB_eq (M := mX3_see) (pc := 15) 40 dX3_see_15 (by decide) (fun c15 => ?_) (fun c15 => ?_) | with_reducible refine x_if_eqN (M := mX3_see) (pc := 15) 40 dX3_see_15 (by decide) (by omega) (fun c15 => ?_) (fun c15 => ?_) | refine x_if_eq (M := mX3_see) (pc := 15) 40 dX3_see_15 (by decide) (fun c15 => ?_) (fun c15 => ?_)
  · refine x_iconst (M := mX3_see) (pc := 40) (v := (-1)) dX3_see_40 (by decide) ?_
    refine x_iret (M := mX3_see) (pc := 41) dX3_see_41 rfl (Nat.le_refl 0) (Nat.le_refl 0) ⟨_, _, _, _, rfl, ?_, hM, hF⟩
    exact act_err (by simp [c_see, *]) LF.rf
  · refine x_iload_n (M := mX3_see) (pc := 18) dX3_see_18 rfl ?_
    refine x_i2l (M := mX3_see) (pc := 19) dX3_see_19 ?_
    refine x_lconst (M := mX3_see) (pc := 20) (v := 0) dX3_see_20 (by decide) ?_
    refine x_ldc2 (M := mX3_see) (pc := 21) dX3_see_21 q2993 ?_
    refine x_S3 (M := mX3_see) (pc := 24) (M' := mX3_in) q2949 kSX3_in dX3_see_24 (m_inB h y 0 31 0 31 (by decide) (by decide) (d - 1)) (fun v_ h hq_ => ?_)
    obtain ⟨hv_, rfl⟩ := hq_; cases hv_
    first | with_reducible refine x_ifB_eq (M := mX3_see) (pc := 27) 40 dX3_see_27 (by decide) (fun c27 => ?_) (fun c27 => ?_) | with_reducible refine x_if_eqN (M := mX3_see) (pc := 27) 40 dX3_see_27 (by decide) (by omega) (fun c27 => ?_) (fun c27 => ?_) | refine x_if_eq (M := mX3_see) (pc := 27) 40 dX3_see_27 (by decide) (fun c27 => ?_) (fun c27 => ?_)
    · refine x_iconst (M := mX3_see) (pc := 40) (v := (-1)) dX3_see_40 (by decide) ?_
      refine x_iret (M := mX3_see) (pc := 41) dX3_see_41 rfl (Nat.le_refl 0) (Nat.le_refl 0) ⟨_, _, _, _, rfl, ?_, hM, hF⟩
      exact act_err (by simp [c_see, *]) LF.rf
    · refine x_iload_n (M := mX3_see) (pc := 30) dX3_see_30 rfl ?_
      refine x_i2l (M := mX3_see) (pc := 31) dX3_see_31 ?_
      refine x_lconst (M := mX3_see) (pc := 32) (v := 0) dX3_see_32 (by decide) ?_
      refine x_lconst (M := mX3_see) (pc := 33) (v := 1) dX3_see_33 (by decide) ?_
      refine x_S3 (M := mX3_see) (pc := 34) (M' := mX3_in) q2949 kSX3_in dX3_see_34 (m_inB h z 0 1 0 1 (by decide) (by decide) (d - 1)) (fun v_ h hq_ => ?_)
      obtain ⟨hv_, rfl⟩ := hq_; cases hv_
      first | with_reducible refine x_ifB_ne (M := mX3_see) (pc := 37) 42 dX3_see_37 (by decide) (fun c37 => ?_) (fun c37 => ?_) | with_reducible refine x_if_neN (M := mX3_see) (pc := 37) 42 dX3_see_37 (by decide) (by omega) (fun c37 => ?_) (fun c37 => ?_) | refine x_if_ne (M := mX3_see) (pc := 37) 42 dX3_see_37 (by decide) (fun c37 => ?_) (fun c37 => ?_)
      · refine x_aload_n (M := mX3_see) (pc := 42) dX3_see_42 rfl ?_
        refine x_get (M := mX3_see) (pc := 43) kcX3 0 rfl q2835 dX3_see_43 hM.1 rfl ?_
        refine x_bipush (M := mX3_see) (pc := 46) (v := nI 12) dX3_see_46 (by decide) ?_
        refine xm_ialdV (M := mX3_see) (pc := 48) hM dX3_see_48 (h12) (by decide) (by first | decide | (simp only [mSz] <;> omega)) ?_
        refine x_bipush (M := mX3_see) (pc := 49) (v := nI 8) dX3_see_49 (by decide) ?_
        first | with_reducible refine x_icmp_neN (M := mX3_see) (pc := 51) 57 dX3_see_51 (by decide) (by omega) (by omega) (fun c51 => ?_) (fun c51 => ?_) | refine x_icmp_ne (M := mX3_see) (pc := 51) 57 dX3_see_51 (by decide) (fun c51 => ?_) (fun c51 => ?_)
        · refine x_aload_n (M := mX3_see) (pc := 57) dX3_see_57 rfl ?_
          refine x_V0 (M := mX3_see) (pc := 58) (M' := mX3_act) q2936 kVX3_act dX3_see_58 (m_actR (d - 1) u hu hU r hr (by omega) h hM) (hM.is) (fun v_ h hq_ => ?_)
          obtain ⟨v_, I_, B_, wd_, hv_, hQ, hM_, hF_⟩ := hq_
          cases hv_
          replace hF := hF.tr hF_
          replace hM := hM_
          clear hM_ hF_
          obtain ⟨rfl, hR, hw⟩ := hQ; have hb0 := hR.2.1 0 (by omega)
          refine x_bipush (M := mX3_see) (pc := 61) (v := nI 13) dX3_see_61 (by decide) ?_
          refine x_iconst (M := mX3_see) (pc := 63) (v := nI 3) dX3_see_63 (by decide) ?_
          refine x_aload_n (M := mX3_see) (pc := 64) dX3_see_64 rfl ?_
          refine x_get (M := mX3_see) (pc := 65) kcX3 0 rfl q2835 dX3_see_65 hM.1 rfl ?_
          refine x_bipush (M := mX3_see) (pc := 68) (v := nI 12) dX3_see_68 (by decide) ?_
          refine xm_ialdV (M := mX3_see) (pc := 70) hM dX3_see_70 ((by rw [hb0]; exact h12 : _ = nI (zN (B 0) 12))) (by decide) (by first | decide | (simp only [mSz] <;> omega)) ?_
          first | with_reducible refine x_imulN (M := mX3_see) (pc := 71) dX3_see_71 ?_ | refine x_imul (M := mX3_see) (pc := 71) dX3_see_71 ?_
          first | with_reducible refine x_iaddN (M := mX3_see) (pc := 72) dX3_see_72 ?_ | refine x_iadd (M := mX3_see) (pc := 72) dX3_see_72 ?_
          refine x_istore4 (M := mX3_see) (pc := 73) dX3_see_73 ?_
          refine x_aload_n (M := mX3_see) (pc := 75) dX3_see_75 rfl ?_
          refine x_get (M := mX3_see) (pc := 76) kcX3 0 rfl q2835 dX3_see_76 hM.1 rfl ?_
          refine x_iload (M := mX3_see) (pc := 79) dX3_see_79 rfl ?_
          refine x_iload_n (M := mX3_see) (pc := 81) dX3_see_81 rfl ?_
          refine xm_iast (M := mX3_see) (pc := 82) hM hF dX3_see_82 (by decide) (by first | decide | (simp only [mSz] <;> omega)) (fun h hM hF => ?_)
          refine x_aload_n (M := mX3_see) (pc := 83) dX3_see_83 rfl ?_
          refine x_get (M := mX3_see) (pc := 84) kcX3 0 rfl q2835 dX3_see_84 hM.1 rfl ?_
          refine x_iload (M := mX3_see) (pc := 87) dX3_see_87 rfl ?_
          refine x_iconst (M := mX3_see) (pc := 89) (v := nI 1) dX3_see_89 (by decide) ?_
          first | with_reducible refine x_iaddN (M := mX3_see) (pc := 90) dX3_see_90 ?_ | refine x_iadd (M := mX3_see) (pc := 90) dX3_see_90 ?_
          refine x_iload_n (M := mX3_see) (pc := 91) dX3_see_91 rfl ?_
          refine xm_iast (M := mX3_see) (pc := 92) hM hF dX3_see_92 (by decide) (by first | decide | (simp only [mSz] <;> omega)) (fun h hM hF => ?_)
          refine x_aload_n (M := mX3_see) (pc := 93) dX3_see_93 rfl ?_
          refine x_get (M := mX3_see) (pc := 94) kcX3 0 rfl q2835 dX3_see_94 hM.1 rfl ?_
          refine x_iload (M := mX3_see) (pc := 97) dX3_see_97 rfl ?_
          refine x_iconst (M := mX3_see) (pc := 99) (v := nI 2) dX3_see_99 (by decide) ?_
          first | with_reducible refine x_iaddN (M := mX3_see) (pc := 100) dX3_see_100 ?_ | refine x_iadd (M := mX3_see) (pc := 100) dX3_see_100 ?_
          refine x_iload_n (M := mX3_see) (pc := 101) dX3_see_101 rfl ?_
          refine xm_iast (M := mX3_see) (pc := 102) hM hF dX3_see_102 (by decide) (by first | decide | (simp only [mSz] <;> omega)) (fun h hM hF => ?_)
          refine x_aload_n (M := mX3_see) (pc := 103) dX3_see_103 rfl ?_
          refine x_get (M := mX3_see) (pc := 104) kcX3 0 rfl q2835 dX3_see_104 hM.1 rfl ?_
          refine x_bipush (M := mX3_see) (pc := 107) (v := nI 12) dX3_see_107 (by decide) ?_
          refine x_dup2 (M := mX3_see) (pc := 109) dX3_see_109 ?_
          refine xm_ialdV (M := mX3_see) (pc := 110) hM dX3_see_110 ((by simp only [va_up, upd, if_true]; rw [if_neg (by omega), if_neg (by omega), if_neg (by omega), hb0]; exact h12 : _ = nI (zN (B 0) 12))) (by decide) (by first | decide | (simp only [mSz] <;> omega)) ?_
          refine x_iconst (M := mX3_see) (pc := 111) (v := nI 1) dX3_see_111 (by decide) ?_
          first | with_reducible refine x_iaddN (M := mX3_see) (pc := 112) dX3_see_112 ?_ | refine x_iadd (M := mX3_see) (pc := 112) dX3_see_112 ?_
          refine xm_iast (M := mX3_see) (pc := 113) hM hF dX3_see_113 (by decide) (by first | decide | (simp only [mSz] <;> omega)) (fun h hM hF => ?_)
          refine x_aload_n (M := mX3_see) (pc := 114) dX3_see_114 rfl ?_
          refine x_get (M := mX3_see) (pc := 115) kcX3 0 rfl q2835 dX3_see_115 hM.1 rfl ?_
          refine x_bipush (M := mX3_see) (pc := 118) (v := nI 12) dX3_see_118 (by decide) ?_
          refine xm_ialdV (M := mX3_see) (pc := 120) hM dX3_see_120 ((by simp only [va_up, upd, if_true] : _ = nI (zN (B 0) 12 + 1))) (by decide) (by first | decide | (simp only [mSz] <;> omega)) ?_
          refine x_iret (M := mX3_see) (pc := 121) dX3_see_121 rfl (Nat.le_refl 0) (Nat.le_refl 0) ⟨_, _, _, _, rfl, ?_, hM, hF⟩
          exact act_ok (by simp [c_see, *]; rfl) LF.rf hR hw (by simp only [va_up_s, hb0]) (fun j hj => by simp only [va_up_n _ _ hj])
        · refine x_bipush (M := mX3_see) (pc := 54) (v := (-3)) dX3_see_54 (by decide) ?_
          refine x_iret (M := mX3_see) (pc := 56) dX3_see_56 rfl (Nat.le_refl 0) (Nat.le_refl 0) ⟨_, _, _, _, rfl, ?_, hM, hF⟩
          exact act_err (by simp [c_see, *]) LF.rf
      · refine x_iconst (M := mX3_see) (pc := 40) (v := (-1)) dX3_see_40 (by decide) ?_
        refine x_iret (M := mX3_see) (pc := 41) dX3_see_41 rfl (Nat.le_refl 0) (Nat.le_refl 0) ⟨_, _, _, _, rfl, ?_, hM, hF⟩
        exact act_err (by simp [c_see, *]) LF.rf
theorem m_addNote (d u : Nat) (hu : u ≤ 5) (hU : I 3 = nI u) (r : Bool) (hr : I 6 = bI r) (hd : 2 ≤ d) (hW : WF (B 0)) (x y z w : Int32) : MC g l mX3_addNote d [.int x, .int y, .int z, .int w] m A I B wd (ACT r u I B wd (c_addNote (B 0) x y z w)) := by
  intro h hM
  have hF : MF m A h h := MF.rf
  obtain ⟨h37, h37b⟩ := hW.2.2.2.2.2.2.2.2.1
  refine Ct.of [some (.ref m), some (.int x), some (.int y), some (.int z), some (.int w), none] (by decide +kernel) rfl (Nat.le_of_ble_eq_true rfl) rfl rfl ?_
  refine x_iload_n (M := mX3_addNote) (pc := 0) dX3_addNote_0 rfl ?_
  refine x_i2l (M := mX3_addNote) (pc := 1) dX3_addNote_1 ?_
  refine x_lconst (M := mX3_addNote) (pc := 2) (v := 0) dX3_addNote_2 (by decide) ?_
  refine x_ldc2 (M := mX3_addNote) (pc := 3) dX3_addNote_3 q3067 ?_
  refine x_S3 (M := mX3_addNote) (pc := 6) (M' := mX3_in) q2949 kSX3_in dX3_addNote_6 (m_inB h x 0 99 0 99 (by decide) (by decide) (d - 1)) (fun v_ h hq_ => ?_)
  obtain ⟨hv_, rfl⟩ := hq_; cases hv_
  first | with_reducible refine x_ifB_eq (M := mX3_addNote) (pc := 9) 47 dX3_addNote_9 (by decide) (fun c9 => ?_) (fun c9 => ?_) | with_reducible refine x_if_eqN (M := mX3_addNote) (pc := 9) 47 dX3_addNote_9 (by decide) (by omega) (fun c9 => ?_) (fun c9 => ?_) | refine x_if_eq (M := mX3_addNote) (pc := 9) 47 dX3_addNote_9 (by decide) (fun c9 => ?_) (fun c9 => ?_)
  · refine x_iconst (M := mX3_addNote) (pc := 47) (v := (-1)) dX3_addNote_47 (by decide) ?_
    refine x_iret (M := mX3_addNote) (pc := 48) dX3_addNote_48 rfl (Nat.le_refl 0) (Nat.le_refl 0) ⟨_, _, _, _, rfl, ?_, hM, hF⟩
    exact act_err (by simp [c_addNote, *]) LF.rf
  · refine x_iload_n (M := mX3_addNote) (pc := 12) dX3_addNote_12 rfl ?_
    refine x_i2l (M := mX3_addNote) (pc := 13) dX3_addNote_13 ?_
    refine x_lconst (M := mX3_addNote) (pc := 14) (v := 0) dX3_addNote_14 (by decide) ?_
    refine x_ldc2 (M := mX3_addNote) (pc := 15) dX3_addNote_15 q3042 ?_
    refine x_S3 (M := mX3_addNote) (pc := 18) (M' := mX3_in) q2949 kSX3_in dX3_addNote_18 (m_inB h y 0 9 0 9 (by decide) (by decide) (d - 1)) (fun v_ h hq_ => ?_)
    obtain ⟨hv_, rfl⟩ := hq_; cases hv_
    first | with_reducible refine x_ifB_eq (M := mX3_addNote) (pc := 21) 47 dX3_addNote_21 (by decide) (fun c21 => ?_) (fun c21 => ?_) | with_reducible refine x_if_eqN (M := mX3_addNote) (pc := 21) 47 dX3_addNote_21 (by decide) (by omega) (fun c21 => ?_) (fun c21 => ?_) | refine x_if_eq (M := mX3_addNote) (pc := 21) 47 dX3_addNote_21 (by decide) (fun c21 => ?_) (fun c21 => ?_)
    · refine x_iconst (M := mX3_addNote) (pc := 47) (v := (-1)) dX3_addNote_47 (by decide) ?_
      refine x_iret (M := mX3_addNote) (pc := 48) dX3_addNote_48 rfl (Nat.le_refl 0) (Nat.le_refl 0) ⟨_, _, _, _, rfl, ?_, hM, hF⟩
      exact act_err (by simp [c_addNote, *]) LF.rf
    · refine x_iload_n (M := mX3_addNote) (pc := 24) dX3_addNote_24 rfl ?_
      refine x_i2l (M := mX3_addNote) (pc := 25) dX3_addNote_25 ?_
      refine x_lconst (M := mX3_addNote) (pc := 26) (v := 1) dX3_addNote_26 (by decide) ?_
      refine x_ldc2 (M := mX3_addNote) (pc := 27) dX3_addNote_27 q3068 ?_
      refine x_S3 (M := mX3_addNote) (pc := 30) (M' := mX3_in) q2949 kSX3_in dX3_addNote_30 (m_inB h z 1 20 1 20 (by decide) (by decide) (d - 1)) (fun v_ h hq_ => ?_)
      obtain ⟨hv_, rfl⟩ := hq_; cases hv_
      first | with_reducible refine x_ifB_eq (M := mX3_addNote) (pc := 33) 47 dX3_addNote_33 (by decide) (fun c33 => ?_) (fun c33 => ?_) | with_reducible refine x_if_eqN (M := mX3_addNote) (pc := 33) 47 dX3_addNote_33 (by decide) (by omega) (fun c33 => ?_) (fun c33 => ?_) | refine x_if_eq (M := mX3_addNote) (pc := 33) 47 dX3_addNote_33 (by decide) (fun c33 => ?_) (fun c33 => ?_)
      · refine x_iconst (M := mX3_addNote) (pc := 47) (v := (-1)) dX3_addNote_47 (by decide) ?_
        refine x_iret (M := mX3_addNote) (pc := 48) dX3_addNote_48 rfl (Nat.le_refl 0) (Nat.le_refl 0) ⟨_, _, _, _, rfl, ?_, hM, hF⟩
        exact act_err (by simp [c_addNote, *]) LF.rf
      · refine x_iload (M := mX3_addNote) (pc := 36) dX3_addNote_36 rfl ?_
        refine x_i2l (M := mX3_addNote) (pc := 38) dX3_addNote_38 ?_
        refine x_lconst (M := mX3_addNote) (pc := 39) (v := 0) dX3_addNote_39 (by decide) ?_
        refine x_lconst (M := mX3_addNote) (pc := 40) (v := 1) dX3_addNote_40 (by decide) ?_
        refine x_S3 (M := mX3_addNote) (pc := 41) (M' := mX3_in) q2949 kSX3_in dX3_addNote_41 (m_inB h w 0 1 0 1 (by decide) (by decide) (d - 1)) (fun v_ h hq_ => ?_)
        obtain ⟨hv_, rfl⟩ := hq_; cases hv_
        first | with_reducible refine x_ifB_ne (M := mX3_addNote) (pc := 44) 49 dX3_addNote_44 (by decide) (fun c44 => ?_) (fun c44 => ?_) | with_reducible refine x_if_neN (M := mX3_addNote) (pc := 44) 49 dX3_addNote_44 (by decide) (by omega) (fun c44 => ?_) (fun c44 => ?_) | refine x_if_ne (M := mX3_addNote) (pc := 44) 49 dX3_addNote_44 (by decide) (fun c44 => ?_) (fun c44 => ?_)
        · refine x_aload_n (M := mX3_addNote) (pc := 49) dX3_addNote_49 rfl ?_
          refine x_get (M := mX3_addNote) (pc := 50) kcX3 0 rfl q2835 dX3_addNote_50 hM.1 rfl ?_
          refine x_bipush (M := mX3_addNote) (pc := 53) (v := nI 37) dX3_addNote_53 (by decide) ?_
          refine xm_ialdV (M := mX3_addNote) (pc := 55) hM dX3_addNote_55 (h37) (by decide) (by first | decide | (simp only [mSz] <;> omega)) ?_
          refine x_bipush (M := mX3_addNote) (pc := 56) (v := nI 12) dX3_addNote_56 (by decide) ?_
          first | with_reducible refine x_icmp_neN (M := mX3_addNote) (pc := 58) 64 dX3_addNote_58 (by decide) (by omega) (by omega) (fun c58 => ?_) (fun c58 => ?_) | refine x_icmp_ne (M := mX3_addNote) (pc := 58) 64 dX3_addNote_58 (by decide) (fun c58 => ?_) (fun c58 => ?_)
          · refine x_aload_n (M := mX3_addNote) (pc := 64) dX3_addNote_64 rfl ?_
            refine x_V0 (M := mX3_addNote) (pc := 65) (M' := mX3_act) q2936 kVX3_act dX3_addNote_65 (m_actR (d - 1) u hu hU r hr (by omega) h hM) (hM.is) (fun v_ h hq_ => ?_)
            obtain ⟨v_, I_, B_, wd_, hv_, hQ, hM_, hF_⟩ := hq_
            cases hv_
            replace hF := hF.tr hF_
            replace hM := hM_
            clear hM_ hF_
            obtain ⟨rfl, hR, hw⟩ := hQ; have hb0 := hR.2.1 0 (by omega)
            refine x_bipush (M := mX3_addNote) (pc := 68) (v := nI 38) dX3_addNote_68 (by decide) ?_
            refine x_iconst (M := mX3_addNote) (pc := 70) (v := nI 4) dX3_addNote_70 (by decide) ?_
            refine x_aload_n (M := mX3_addNote) (pc := 71) dX3_addNote_71 rfl ?_
            refine x_get (M := mX3_addNote) (pc := 72) kcX3 0 rfl q2835 dX3_addNote_72 hM.1 rfl ?_
            refine x_bipush (M := mX3_addNote) (pc := 75) (v := nI 37) dX3_addNote_75 (by decide) ?_
            refine xm_ialdV (M := mX3_addNote) (pc := 77) hM dX3_addNote_77 ((by rw [hb0]; exact h37 : _ = nI (zN (B 0) 37))) (by decide) (by first | decide | (simp only [mSz] <;> omega)) ?_
            first | with_reducible refine x_imulN (M := mX3_addNote) (pc := 78) dX3_addNote_78 ?_ | refine x_imul (M := mX3_addNote) (pc := 78) dX3_addNote_78 ?_
            first | with_reducible refine x_iaddN (M := mX3_addNote) (pc := 79) dX3_addNote_79 ?_ | refine x_iadd (M := mX3_addNote) (pc := 79) dX3_addNote_79 ?_
            refine x_istore5 (M := mX3_addNote) (pc := 80) dX3_addNote_80 ?_
            refine x_aload_n (M := mX3_addNote) (pc := 82) dX3_addNote_82 rfl ?_
            refine x_get (M := mX3_addNote) (pc := 83) kcX3 0 rfl q2835 dX3_addNote_83 hM.1 rfl ?_
            refine x_iload (M := mX3_addNote) (pc := 86) dX3_addNote_86 rfl ?_
            refine x_iload_n (M := mX3_addNote) (pc := 88) dX3_addNote_88 rfl ?_
            refine xm_iast (M := mX3_addNote) (pc := 89) hM hF dX3_addNote_89 (by decide) (by first | decide | (simp only [mSz] <;> omega)) (fun h hM hF => ?_)
            refine x_aload_n (M := mX3_addNote) (pc := 90) dX3_addNote_90 rfl ?_
            refine x_get (M := mX3_addNote) (pc := 91) kcX3 0 rfl q2835 dX3_addNote_91 hM.1 rfl ?_
            refine x_iload (M := mX3_addNote) (pc := 94) dX3_addNote_94 rfl ?_
            refine x_iconst (M := mX3_addNote) (pc := 96) (v := nI 1) dX3_addNote_96 (by decide) ?_
            first | with_reducible refine x_iaddN (M := mX3_addNote) (pc := 97) dX3_addNote_97 ?_ | refine x_iadd (M := mX3_addNote) (pc := 97) dX3_addNote_97 ?_
            refine x_iload_n (M := mX3_addNote) (pc := 98) dX3_addNote_98 rfl ?_
            refine xm_iast (M := mX3_addNote) (pc := 99) hM hF dX3_addNote_99 (by decide) (by first | decide | (simp only [mSz] <;> omega)) (fun h hM hF => ?_)
            refine x_aload_n (M := mX3_addNote) (pc := 100) dX3_addNote_100 rfl ?_
            refine x_get (M := mX3_addNote) (pc := 101) kcX3 0 rfl q2835 dX3_addNote_101 hM.1 rfl ?_
            refine x_iload (M := mX3_addNote) (pc := 104) dX3_addNote_104 rfl ?_
            refine x_iconst (M := mX3_addNote) (pc := 106) (v := nI 2) dX3_addNote_106 (by decide) ?_
            first | with_reducible refine x_iaddN (M := mX3_addNote) (pc := 107) dX3_addNote_107 ?_ | refine x_iadd (M := mX3_addNote) (pc := 107) dX3_addNote_107 ?_
            refine x_iload_n (M := mX3_addNote) (pc := 108) dX3_addNote_108 rfl ?_
            refine xm_iast (M := mX3_addNote) (pc := 109) hM hF dX3_addNote_109 (by decide) (by first | decide | (simp only [mSz] <;> omega)) (fun h hM hF => ?_)
            refine x_aload_n (M := mX3_addNote) (pc := 110) dX3_addNote_110 rfl ?_
            refine x_get (M := mX3_addNote) (pc := 111) kcX3 0 rfl q2835 dX3_addNote_111 hM.1 rfl ?_
            refine x_iload (M := mX3_addNote) (pc := 114) dX3_addNote_114 rfl ?_
            refine x_iconst (M := mX3_addNote) (pc := 116) (v := nI 3) dX3_addNote_116 (by decide) ?_
            first | with_reducible refine x_iaddN (M := mX3_addNote) (pc := 117) dX3_addNote_117 ?_ | refine x_iadd (M := mX3_addNote) (pc := 117) dX3_addNote_117 ?_
            refine x_iload (M := mX3_addNote) (pc := 118) dX3_addNote_118 rfl ?_
            refine xm_iast (M := mX3_addNote) (pc := 120) hM hF dX3_addNote_120 (by decide) (by first | decide | (simp only [mSz] <;> omega)) (fun h hM hF => ?_)
            refine x_aload_n (M := mX3_addNote) (pc := 121) dX3_addNote_121 rfl ?_
            refine x_get (M := mX3_addNote) (pc := 122) kcX3 0 rfl q2835 dX3_addNote_122 hM.1 rfl ?_
            refine x_bipush (M := mX3_addNote) (pc := 125) (v := nI 37) dX3_addNote_125 (by decide) ?_
            refine x_dup2 (M := mX3_addNote) (pc := 127) dX3_addNote_127 ?_
            refine xm_ialdV (M := mX3_addNote) (pc := 128) hM dX3_addNote_128 ((by simp only [va_up, upd, if_true]; rw [if_neg (by omega), if_neg (by omega), if_neg (by omega), if_neg (by omega), hb0]; exact h37 : _ = nI (zN (B 0) 37))) (by decide) (by first | decide | (simp only [mSz] <;> omega)) ?_
            refine x_iconst (M := mX3_addNote) (pc := 129) (v := nI 1) dX3_addNote_129 (by decide) ?_
            first | with_reducible refine x_iaddN (M := mX3_addNote) (pc := 130) dX3_addNote_130 ?_ | refine x_iadd (M := mX3_addNote) (pc := 130) dX3_addNote_130 ?_
            refine xm_iast (M := mX3_addNote) (pc := 131) hM hF dX3_addNote_131 (by decide) (by first | decide | (simp only [mSz] <;> omega)) (fun h hM hF => ?_)
            refine x_aload_n (M := mX3_addNote) (pc := 132) dX3_addNote_132 rfl ?_
            refine x_get (M := mX3_addNote) (pc := 133) kcX3 0 rfl q2835 dX3_addNote_133 hM.1 rfl ?_
            refine x_bipush (M := mX3_addNote) (pc := 136) (v := nI 37) dX3_addNote_136 (by decide) ?_
            refine xm_ialdV (M := mX3_addNote) (pc := 138) hM dX3_addNote_138 ((by simp only [va_up, upd, if_true] : _ = nI (zN (B 0) 37 + 1))) (by decide) (by first | decide | (simp only [mSz] <;> omega)) ?_
            refine x_iconst (M := mX3_addNote) (pc := 139) (v := nI 1) dX3_addNote_139 (by decide) ?_
            first | with_reducible refine x_isubN (M := mX3_addNote) (pc := 140) dX3_addNote_140 (by omega) ?_ | refine x_isub (M := mX3_addNote) (pc := 140) dX3_addNote_140 ?_
            refine x_iret (M := mX3_addNote) (pc := 141) dX3_addNote_141 rfl (Nat.le_refl 0) (Nat.le_refl 0) ⟨_, _, _, _, rfl, ?_, hM, hF⟩
            exact act_ok (by simp [c_addNote, *]; rfl) LF.rf hR hw (by simp only [va_up_s, hb0]) (fun j hj => by simp only [va_up_n _ _ hj])
          · refine x_bipush (M := mX3_addNote) (pc := 61) (v := (-3)) dX3_addNote_61 (by decide) ?_
            refine x_iret (M := mX3_addNote) (pc := 63) dX3_addNote_63 rfl (Nat.le_refl 0) (Nat.le_refl 0) ⟨_, _, _, _, rfl, ?_, hM, hF⟩
            exact act_err (by simp [c_addNote, *]) LF.rf
        · refine x_iconst (M := mX3_addNote) (pc := 47) (v := (-1)) dX3_addNote_47 (by decide) ?_
          refine x_iret (M := mX3_addNote) (pc := 48) dX3_addNote_48 rfl (Nat.le_refl 0) (Nat.le_refl 0) ⟨_, _, _, _, rfl, ?_, hM, hF⟩
          exact act_err (by simp [c_addNote, *]) LF.rf
end MODEL9

section MODELA
set_option maxRecDepth 100000
variable {g : xG} {l : Launch} {m : Nat} {A : Nat → Nat} {I : Nat → Int32} {B : Nat → Nat → Int32} {wd : Int64}
def p_rem (s : Row) (x n k : Nat) : Row := fun j => if 38 + 4 * x ≤ j ∧ j < k then s (j + 4) else if j = 37 then nI (n - 1) else s j
theorem p_rem_37 (s : Row) (x n k : Nat) : p_rem s x n k 37 = nI (n - 1) := by
  unfold p_rem; rw [if_neg (by omega)]; simp
theorem m_removeNote_l (d x n : Nat) (hx : x < n) (hn : n ≤ 12) (Q : xO → xH → Prop) (h0 : xH) (s : Row) (B1 : Nat → Nat → Int32) (hE : ∀ h, MR g h m A I (va_up B1 0 (p_rem s x n (38 + 4 * (n - 1)))) wd → MF m A h0 h → ∀ a1 a2, X g l mX3_removeNote d 0 0 Q 79 [some (.ref m), a1, a2] [] h 0 0) : ∀ q k, k + q = 38 + 4 * (n - 1) → 38 + 4 * x ≤ k → ∀ h, MR g h m A I (va_up B1 0 (p_rem s x n k)) wd → MF m A h0 h → X g l mX3_removeNote d 0 0 Q 43 [some (.ref m), some (.int (nI x)), some (.int (nI k))] [] h 0 0 := by
  intro q
  induction q with
  | zero =>
    intro k hk hxk h hM hF
    have : k = 38 + 4 * (n - 1) := by omega
    subst this
    refine x_iload_n (M := mX3_removeNote) (pc := 43) dX3_removeNote_43 rfl ?_
    refine x_bipush (M := mX3_removeNote) (pc := 44) (v := nI 38) dX3_removeNote_44 (by decide) ?_
    refine x_iconst (M := mX3_removeNote) (pc := 46) (v := nI 4) dX3_removeNote_46 (by decide) ?_
    refine x_aload_n (M := mX3_removeNote) (pc := 47) dX3_removeNote_47 rfl ?_
    refine x_get (M := mX3_removeNote) (pc := 48) kcX3 0 rfl q2835 dX3_removeNote_48 hM.1 rfl ?_
    refine x_bipush (M := mX3_removeNote) (pc := 51) (v := nI 37) dX3_removeNote_51 (by decide) ?_
    refine xm_ialdV (M := mX3_removeNote) (pc := 53) hM dX3_removeNote_53 ((by simp only [va_up_s]; exact p_rem_37 s x n _ : _ = nI (n - 1))) (by decide) (by first | decide | (simp only [mSz] <;> omega)) ?_
    first | with_reducible refine x_imulN (M := mX3_removeNote) (pc := 54) dX3_removeNote_54 ?_ | refine x_imul (M := mX3_removeNote) (pc := 54) dX3_removeNote_54 ?_
    first | with_reducible refine x_iaddN (M := mX3_removeNote) (pc := 55) dX3_removeNote_55 ?_ | refine x_iadd (M := mX3_removeNote) (pc := 55) dX3_removeNote_55 ?_
    first | with_reducible refine x_icmp_geN (M := mX3_removeNote) (pc := 56) 79 dX3_removeNote_56 (by decide) (by omega) (by omega) (fun c1 => ?_) (fun c1 => ?_) | refine x_icmp_ge (M := mX3_removeNote) (pc := 56) 79 dX3_removeNote_56 (by decide) (fun c1 => ?_) (fun c1 => ?_)
    · exact hE h hM hF _ _
    · omega
  | succ q ih =>
    intro k hk hxk h hM hF
    refine x_iload_n (M := mX3_removeNote) (pc := 43) dX3_removeNote_43 rfl ?_
    refine x_bipush (M := mX3_removeNote) (pc := 44) (v := nI 38) dX3_removeNote_44 (by decide) ?_
    refine x_iconst (M := mX3_removeNote) (pc := 46) (v := nI 4) dX3_removeNote_46 (by decide) ?_
    refine x_aload_n (M := mX3_removeNote) (pc := 47) dX3_removeNote_47 rfl ?_
    refine x_get (M := mX3_removeNote) (pc := 48) kcX3 0 rfl q2835 dX3_removeNote_48 hM.1 rfl ?_
    refine x_bipush (M := mX3_removeNote) (pc := 51) (v := nI 37) dX3_removeNote_51 (by decide) ?_
    refine xm_ialdV (M := mX3_removeNote) (pc := 53) hM dX3_removeNote_53 ((by simp only [va_up_s]; exact p_rem_37 s x n _ : _ = nI (n - 1))) (by decide) (by first | decide | (simp only [mSz] <;> omega)) ?_
    first | with_reducible refine x_imulN (M := mX3_removeNote) (pc := 54) dX3_removeNote_54 ?_ | refine x_imul (M := mX3_removeNote) (pc := 54) dX3_removeNote_54 ?_
    first | with_reducible refine x_iaddN (M := mX3_removeNote) (pc := 55) dX3_removeNote_55 ?_ | refine x_iadd (M := mX3_removeNote) (pc := 55) dX3_removeNote_55 ?_
    first | with_reducible refine x_icmp_geN (M := mX3_removeNote) (pc := 56) 79 dX3_removeNote_56 (by decide) (by omega) (by omega) (fun c1 => ?_) (fun c1 => ?_) | refine x_icmp_ge (M := mX3_removeNote) (pc := 56) 79 dX3_removeNote_56 (by decide) (fun c1 => ?_) (fun c1 => ?_)
    · omega
    · refine x_aload_n (M := mX3_removeNote) (pc := 59) dX3_removeNote_59 rfl ?_
      refine x_get (M := mX3_removeNote) (pc := 60) kcX3 0 rfl q2835 dX3_removeNote_60 hM.1 rfl ?_
      refine x_iload_n (M := mX3_removeNote) (pc := 63) dX3_removeNote_63 rfl ?_
      refine x_aload_n (M := mX3_removeNote) (pc := 64) dX3_removeNote_64 rfl ?_
      refine x_get (M := mX3_removeNote) (pc := 65) kcX3 0 rfl q2835 dX3_removeNote_65 hM.1 rfl ?_
      refine x_iload_n (M := mX3_removeNote) (pc := 68) dX3_removeNote_68 rfl ?_
      refine x_iconst (M := mX3_removeNote) (pc := 69) (v := nI 4) dX3_removeNote_69 (by decide) ?_
      first | with_reducible refine x_iaddN (M := mX3_removeNote) (pc := 70) dX3_removeNote_70 ?_ | refine x_iadd (M := mX3_removeNote) (pc := 70) dX3_removeNote_70 ?_
      refine xm_iald (M := mX3_removeNote) (pc := 71) hM dX3_removeNote_71 (by decide) (by first | decide | (simp only [mSz] <;> omega)) ?_
      refine xm_iast (M := mX3_removeNote) (pc := 72) hM hF dX3_removeNote_72 (by decide) (by first | decide | (simp only [mSz] <;> omega)) (fun h hM hF => ?_)
      first | refine x_iinc2N (M := mX3_removeNote) (pc := 73) (c := 1) dX3_removeNote_73 oI1 ?_ | refine x_iinc2 (M := mX3_removeNote) (pc := 73) (c := 1) dX3_removeNote_73 (by decide) ?_
      refine x_goto (M := mX3_removeNote) (pc := 76) 43 dX3_removeNote_76 (by decide) ?_
      refine ih (k + 1) (by omega) (by omega) h (hM.up2 fun t => ?_) hF
      simp only [va_up_s, upd, p_rem]
      repeat' split
      all_goals first | rfl | (exfalso; omega) | (congr 1; omega)
theorem m_removeNote (d u : Nat) (hu : u ≤ 5) (hU : I 3 = nI u) (r : Bool) (hr : I 6 = bI r) (hd : 2 ≤ d) (hW : WF (B 0)) (x : Int32) : MC g l mX3_removeNote d [.int x] m A I B wd (ACT r u I B wd (c_removeNote (B 0) x)) := by
  intro h hM
  have hF : MF m A h h := MF.rf
  obtain ⟨h37, h37b⟩ := hW.2.2.2.2.2.2.2.2.1
  refine Ct.of [some (.ref m), some (.int x), none] (by decide +kernel) rfl (Nat.le_of_ble_eq_true rfl) rfl rfl ?_
  refine x_iload_n (M := mX3_removeNote) (pc := 0) dX3_removeNote_0 rfl ?_
  refine x_i2l (M := mX3_removeNote) (pc := 1) dX3_removeNote_1 ?_
  refine x_lconst (M := mX3_removeNote) (pc := 2) (v := 0) dX3_removeNote_2 (by decide) ?_
  refine x_aload_n (M := mX3_removeNote) (pc := 3) dX3_removeNote_3 rfl ?_
  refine x_get (M := mX3_removeNote) (pc := 4) kcX3 0 rfl q2835 dX3_removeNote_4 hM.1 rfl ?_
  refine x_bipush (M := mX3_removeNote) (pc := 7) (v := nI 37) dX3_removeNote_7 (by decide) ?_
  refine xm_iald (M := mX3_removeNote) (pc := 9) hM dX3_removeNote_9 (by decide) (by first | decide | (simp only [mSz] <;> omega)) ?_
  refine x_iconst (M := mX3_removeNote) (pc := 10) (v := nI 1) dX3_removeNote_10 (by decide) ?_
  first | with_reducible refine x_isubN (M := mX3_removeNote) (pc := 11) dX3_removeNote_11 (by omega) ?_ | refine x_isub (M := mX3_removeNote) (pc := 11) dX3_removeNote_11 ?_
  refine x_i2l (M := mX3_removeNote) (pc := 12) dX3_removeNote_12 ?_
  refine x_S3 (M := mX3_removeNote) (pc := 13) (M' := mX3_in) q2949 kSX3_in dX3_removeNote_13 (m_inB h x 0 (B 0 37 - 1) 0 _ (by decide) rfl (d - 1)) (fun v_ h hq_ => ?_)
  obtain ⟨hv_, rfl⟩ := hq_; cases hv_
  first | with_reducible refine x_ifB_ne (M := mX3_removeNote) (pc := 16) 21 dX3_removeNote_16 (by decide) (fun c16 => ?_) (fun c16 => ?_) | with_reducible refine x_if_neN (M := mX3_removeNote) (pc := 16) 21 dX3_removeNote_16 (by decide) (by omega) (fun c16 => ?_) (fun c16 => ?_) | refine x_if_ne (M := mX3_removeNote) (pc := 16) 21 dX3_removeNote_16 (by decide) (fun c16 => ?_) (fun c16 => ?_)
  rotate_left
  · refine x_iconst (M := mX3_removeNote) (pc := 19) (v := (-1)) dX3_removeNote_19 (by decide) ?_
    refine x_iret (M := mX3_removeNote) (pc := 20) dX3_removeNote_20 rfl (Nat.le_refl 0) (Nat.le_refl 0) ⟨_, _, _, _, rfl, ?_, hM, hF⟩
    exact act_err (by simp [c_removeNote, c16]) LF.rf
  skip
  have hx9 : ∃ n, x = nI n ∧ n < zN (B 0) 37 := by
    have := of_decide_eq_true c16
    rw [h37] at this
    rcases Nat.eq_zero_or_pos (zN (B 0) 37) with e | e
    · rw [e] at this
      exact absurd (Int32.le_trans this.1 this.2) (by decide)
    · rw [show (1 : Int32) = nI 1 from rfl, pk_sub (by omega)] at this
      obtain ⟨n, hn, h1, h2⟩ := (in_of (a := 0) (by omega) (by omega)).mp this
      exact ⟨n, hn, by omega⟩
  obtain ⟨n, rfl, hn⟩ := hx9
  have hcl : (nI n).toNatClampNeg = n := nI_clamp (by omega)
  refine x_aload_n (M := mX3_removeNote) (pc := 21) dX3_removeNote_21 rfl ?_
  refine x_V0 (M := mX3_removeNote) (pc := 22) (M' := mX3_act) q2936 kVX3_act dX3_removeNote_22 (m_actR (d - 1) u hu hU r hr (by omega) h hM) (hM.is) (fun v_ h hq_ => ?_)
  obtain ⟨v_, I_, B_, wd_, hv_, hQ, hM_, hF_⟩ := hq_
  cases hv_
  replace hF := hF.tr hF_
  replace hM := hM_
  clear hM_ hF_
  obtain ⟨rfl, hR, hw⟩ := hQ; have hb0 := hR.2.1 0 (by omega)
  refine x_aload_n (M := mX3_removeNote) (pc := 25) dX3_removeNote_25 rfl ?_
  refine x_get (M := mX3_removeNote) (pc := 26) kcX3 0 rfl q2835 dX3_removeNote_26 hM.1 rfl ?_
  refine x_bipush (M := mX3_removeNote) (pc := 29) (v := nI 37) dX3_removeNote_29 (by decide) ?_
  refine x_dup2 (M := mX3_removeNote) (pc := 31) dX3_removeNote_31 ?_
  refine xm_ialdV (M := mX3_removeNote) (pc := 32) hM dX3_removeNote_32 ((by rw [hb0]; exact h37 : _ = nI (zN (B 0) 37))) (by decide) (by first | decide | (simp only [mSz] <;> omega)) ?_
  refine x_iconst (M := mX3_removeNote) (pc := 33) (v := nI 1) dX3_removeNote_33 (by decide) ?_
  first | with_reducible refine x_isubN (M := mX3_removeNote) (pc := 34) dX3_removeNote_34 (by omega) ?_ | refine x_isub (M := mX3_removeNote) (pc := 34) dX3_removeNote_34 ?_
  refine xm_iast (M := mX3_removeNote) (pc := 35) hM hF dX3_removeNote_35 (by decide) (by first | decide | (simp only [mSz] <;> omega)) (fun h hM hF => ?_)
  refine x_bipush (M := mX3_removeNote) (pc := 36) (v := nI 38) dX3_removeNote_36 (by decide) ?_
  refine x_iconst (M := mX3_removeNote) (pc := 38) (v := nI 4) dX3_removeNote_38 (by decide) ?_
  refine x_iload_n (M := mX3_removeNote) (pc := 39) dX3_removeNote_39 rfl ?_
  first | with_reducible refine x_imulN (M := mX3_removeNote) (pc := 40) dX3_removeNote_40 ?_ | refine x_imul (M := mX3_removeNote) (pc := 40) dX3_removeNote_40 ?_
  first | with_reducible refine x_iaddN (M := mX3_removeNote) (pc := 41) dX3_removeNote_41 ?_ | refine x_iadd (M := mX3_removeNote) (pc := 41) dX3_removeNote_41 ?_
  refine x_istore2 (M := mX3_removeNote) (pc := 42) dX3_removeNote_42 ?_
  skip
  refine m_removeNote_l d n (zN (B 0) 37) hn h37b _ _ (B 0) B_ (fun h hM hF a1 a2 => ?_) (4 * (zN (B 0) 37 - 1 - n)) (38 + 4 * n) (by omega) (by omega) h (hM.up fun t => ?_) hF
  · refine x_aload_n (M := mX3_removeNote) (pc := 79) dX3_removeNote_79 rfl ?_
    refine x_get (M := mX3_removeNote) (pc := 80) kcX3 0 rfl q2835 dX3_removeNote_80 hM.1 rfl ?_
    refine x_bipush (M := mX3_removeNote) (pc := 83) (v := nI 37) dX3_removeNote_83 (by decide) ?_
    refine xm_ialdV (M := mX3_removeNote) (pc := 85) hM dX3_removeNote_85 ((by simp only [va_up_s]; exact p_rem_37 _ _ _ _ : _ = nI (zN (B 0) 37 - 1))) (by decide) (by first | decide | (simp only [mSz] <;> omega)) ?_
    refine x_iret (M := mX3_removeNote) (pc := 86) dX3_removeNote_86 rfl (Nat.le_refl 0) (Nat.le_refl 0) ⟨_, _, _, _, rfl, ?_, hM, hF⟩
    refine act_ok (by simp only [c_removeNote, c16, hcl]; rfl) LF.rf hR hw (by simp only [va_up_s]; rfl) (fun j hj => by simp only [va_up_n _ _ hj])
  · simp only [upd, p_rem, hb0]
    rw [if_neg (show ¬ (38 + 4 * n ≤ t ∧ t < 38 + 4 * n) by omega)]
def p_tak (s : Row) (x k : Nat) : Row := fun j => if 156 + 154 * x ≤ j ∧ j < 156 + 154 * x + k then s (j - (156 + 154 * x)) else if j = 154 + x then 1 else s j
theorem m_take_l (d x : Nat) (hx : x < 2) (Q : xO → xH → Prop) (h0 : xH) (s : Row) (B1 : Nat → Nat → Int32) (hE : ∀ h, MR g h m A I (va_up B1 0 (p_tak s x 154)) wd → MF m A h0 h → ∀ a1 a2, X g l mX3_take d 0 0 Q 64 [some (.ref m), a1, a2] [] h 0 0) : ∀ q k, k + q = 154 → ∀ h, MR g h m A I (va_up B1 0 (p_tak s x k)) wd → MF m A h0 h → X g l mX3_take d 0 0 Q 29 [some (.ref m), some (.int (nI x)), some (.int (nI k))] [] h 0 0 := by
  intro q
  induction q with
  | zero =>
    intro k hk h hM hF
    have : k = 154 := by omega
    subst this
    refine x_iload_n (M := mX3_take) (pc := 29) dX3_take_29 rfl ?_
    refine x_sipush (M := mX3_take) (pc := 30) (v := nI 154) dX3_take_30 (by decide) ?_
    first | with_reducible refine x_icmp_geN (M := mX3_take) (pc := 33) 64 dX3_take_33 (by decide) (by omega) (by omega) (fun c1 => ?_) (fun c1 => ?_) | refine x_icmp_ge (M := mX3_take) (pc := 33) 64 dX3_take_33 (by decide) (fun c1 => ?_) (fun c1 => ?_)
    · exact hE h hM hF _ _
    · omega
  | succ q ih =>
    intro k hk h hM hF
    refine x_iload_n (M := mX3_take) (pc := 29) dX3_take_29 rfl ?_
    refine x_sipush (M := mX3_take) (pc := 30) (v := nI 154) dX3_take_30 (by decide) ?_
    first | with_reducible refine x_icmp_geN (M := mX3_take) (pc := 33) 64 dX3_take_33 (by decide) (by omega) (by omega) (fun c1 => ?_) (fun c1 => ?_) | refine x_icmp_ge (M := mX3_take) (pc := 33) 64 dX3_take_33 (by decide) (fun c1 => ?_) (fun c1 => ?_)
    · omega
    · refine x_aload_n (M := mX3_take) (pc := 36) dX3_take_36 rfl ?_
      refine x_get (M := mX3_take) (pc := 37) kcX3 0 rfl q2835 dX3_take_37 hM.1 rfl ?_
      refine x_sipush (M := mX3_take) (pc := 40) (v := nI 156) dX3_take_40 (by decide) ?_
      refine x_sipush (M := mX3_take) (pc := 43) (v := nI 154) dX3_take_43 (by decide) ?_
      refine x_iload_n (M := mX3_take) (pc := 46) dX3_take_46 rfl ?_
      first | with_reducible refine x_imulN (M := mX3_take) (pc := 47) dX3_take_47 ?_ | refine x_imul (M := mX3_take) (pc := 47) dX3_take_47 ?_
      first | with_reducible refine x_iaddN (M := mX3_take) (pc := 48) dX3_take_48 ?_ | refine x_iadd (M := mX3_take) (pc := 48) dX3_take_48 ?_
      refine x_iload_n (M := mX3_take) (pc := 49) dX3_take_49 rfl ?_
      first | with_reducible refine x_iaddN (M := mX3_take) (pc := 50) dX3_take_50 ?_ | refine x_iadd (M := mX3_take) (pc := 50) dX3_take_50 ?_
      refine x_aload_n (M := mX3_take) (pc := 51) dX3_take_51 rfl ?_
      refine x_get (M := mX3_take) (pc := 52) kcX3 0 rfl q2835 dX3_take_52 hM.1 rfl ?_
      refine x_iload_n (M := mX3_take) (pc := 55) dX3_take_55 rfl ?_
      refine xm_iald (M := mX3_take) (pc := 56) hM dX3_take_56 (by decide) (by first | decide | (simp only [mSz] <;> omega)) ?_
      refine xm_iast (M := mX3_take) (pc := 57) hM hF dX3_take_57 (by decide) (by first | decide | (simp only [mSz] <;> omega)) (fun h hM hF => ?_)
      first | refine x_iinc2N (M := mX3_take) (pc := 58) (c := 1) dX3_take_58 oI1 ?_ | refine x_iinc2 (M := mX3_take) (pc := 58) (c := 1) dX3_take_58 (by decide) ?_
      refine x_goto (M := mX3_take) (pc := 61) 29 dX3_take_61 (by decide) ?_
      refine ih (k + 1) (by omega) h (hM.up2 fun t => ?_) hF
      simp only [va_up_s, upd, p_tak]
      repeat' split
      all_goals first | rfl | (exfalso; omega) | (congr 1; omega)
theorem m_take (d u : Nat) (hu : u ≤ 5) (hU : I 3 = nI u) (r : Bool) (hr : I 6 = bI r) (hd : 2 ≤ d) (x : Int32) : MC g l mX3_take d [.int x] m A I B wd (ACT r u I B wd (c_take (B 0) x)) := by
  intro h hM
  have hF : MF m A h h := MF.rf
  refine Ct.of [some (.ref m), some (.int x), none] (by decide +kernel) rfl (Nat.le_of_ble_eq_true rfl) rfl rfl ?_
  refine x_iload_n (M := mX3_take) (pc := 0) dX3_take_0 rfl ?_
  refine x_i2l (M := mX3_take) (pc := 1) dX3_take_1 ?_
  refine x_lconst (M := mX3_take) (pc := 2) (v := 0) dX3_take_2 (by decide) ?_
  refine x_lconst (M := mX3_take) (pc := 3) (v := 1) dX3_take_3 (by decide) ?_
  refine x_S3 (M := mX3_take) (pc := 4) (M' := mX3_in) q2949 kSX3_in dX3_take_4 (m_inB h x 0 1 0 1 (by decide) (by decide) (d - 1)) (fun v_ h hq_ => ?_)
  obtain ⟨hv_, rfl⟩ := hq_; cases hv_
  first | with_reducible refine x_ifB_ne (M := mX3_take) (pc := 7) 12 dX3_take_7 (by decide) (fun c7 => ?_) (fun c7 => ?_) | with_reducible refine x_if_neN (M := mX3_take) (pc := 7) 12 dX3_take_7 (by decide) (by omega) (fun c7 => ?_) (fun c7 => ?_) | refine x_if_ne (M := mX3_take) (pc := 7) 12 dX3_take_7 (by decide) (fun c7 => ?_) (fun c7 => ?_)
  rotate_left
  · refine x_iconst (M := mX3_take) (pc := 10) (v := (-1)) dX3_take_10 (by decide) ?_
    refine x_iret (M := mX3_take) (pc := 11) dX3_take_11 rfl (Nat.le_refl 0) (Nat.le_refl 0) ⟨_, _, _, _, rfl, ?_, hM, hF⟩
    exact act_err (by simp [c_take, *]) LF.rf
  skip
  obtain ⟨n, rfl, hn1, hn2⟩ := bIn_n (a := 0) (b := 1) (by omega) (by omega) c7
  have hcl : (nI n).toNatClampNeg = n := nI_clamp (by omega)
  refine x_aload_n (M := mX3_take) (pc := 12) dX3_take_12 rfl ?_
  refine x_V0 (M := mX3_take) (pc := 13) (M' := mX3_act) q2936 kVX3_act dX3_take_13 (m_actR (d - 1) u hu hU r hr (by omega) h hM) (hM.is) (fun v_ h hq_ => ?_)
  obtain ⟨v_, I_, B_, wd_, hv_, hQ, hM_, hF_⟩ := hq_
  cases hv_
  replace hF := hF.tr hF_
  replace hM := hM_
  clear hM_ hF_
  obtain ⟨rfl, hR, hw⟩ := hQ; have hb0 := hR.2.1 0 (by omega)
  refine x_aload_n (M := mX3_take) (pc := 16) dX3_take_16 rfl ?_
  refine x_get (M := mX3_take) (pc := 17) kcX3 0 rfl q2835 dX3_take_17 hM.1 rfl ?_
  refine x_sipush (M := mX3_take) (pc := 20) (v := nI 154) dX3_take_20 (by decide) ?_
  refine x_iload_n (M := mX3_take) (pc := 23) dX3_take_23 rfl ?_
  first | with_reducible refine x_iaddN (M := mX3_take) (pc := 24) dX3_take_24 ?_ | refine x_iadd (M := mX3_take) (pc := 24) dX3_take_24 ?_
  refine x_iconst (M := mX3_take) (pc := 25) (v := nI 1) dX3_take_25 (by decide) ?_
  refine xm_iast (M := mX3_take) (pc := 26) hM hF dX3_take_26 (by decide) (by first | decide | (simp only [mSz] <;> omega)) (fun h hM hF => ?_)
  refine x_iconst (M := mX3_take) (pc := 27) (v := nI 0) dX3_take_27 (by decide) ?_
  refine x_istore2 (M := mX3_take) (pc := 28) dX3_take_28 ?_
  skip
  refine m_take_l d n (by omega) _ _ (B 0) B_ (fun h hM hF a1 a2 => ?_) 154 0 rfl h (hM.up fun t => ?_) hF
  · refine x_aload_n (M := mX3_take) (pc := 64) dX3_take_64 rfl ?_
    refine x_get (M := mX3_take) (pc := 65) kcX3 0 rfl q2835 dX3_take_65 hM.1 rfl ?_
    refine x_iconst (M := mX3_take) (pc := 68) (v := nI 2) dX3_take_68 (by decide) ?_
    refine xm_ialdV (M := mX3_take) (pc := 69) hM dX3_take_69 ((by simp only [va_up_s, p_tak]; rw [if_neg (by omega), if_neg (by omega)] : _ = B 0 2)) (by decide) (by first | decide | (simp only [mSz] <;> omega)) ?_
    refine x_iret (M := mX3_take) (pc := 70) dX3_take_70 rfl (Nat.le_refl 0) (Nat.le_refl 0) ⟨_, _, _, _, rfl, ?_, hM, hF⟩
    refine act_ok (by simp only [c_take, c7, hcl]; rfl) LF.rf hR hw (by simp only [va_up_s]; rfl) (fun j hj => by simp only [va_up_n _ _ hj])
  · simp only [upd, p_tak, hb0]
    rw [if_neg (show ¬ (156 + 154 * n ≤ t ∧ t < 156 + 154 * n + 0) by omega)]; rfl
def p_res (s : Row) (x k : Nat) : Row := fun j => if j < k then s (156 + 154 * x + j) else s j
theorem m_restore_l (d x : Nat) (hx : x < 2) (Q : xO → xH → Prop) (h0 : xH) (s : Row) (B1 : Nat → Nat → Int32) (hE : ∀ h, MR g h m A I (va_up B1 0 (p_res s x 154)) wd → MF m A h0 h → ∀ a1 a2, X g l mX3_restore d 0 0 Q 69 [some (.ref m), a1, a2] [] h 0 0) : ∀ q k, k + q = 154 → ∀ h, MR g h m A I (va_up B1 0 (p_res s x k)) wd → MF m A h0 h → X g l mX3_restore d 0 0 Q 34 [some (.ref m), some (.int (nI x)), some (.int (nI k))] [] h 0 0 := by
  intro q
  induction q with
  | zero =>
    intro k hk h hM hF
    have : k = 154 := by omega
    subst this
    refine x_iload_n (M := mX3_restore) (pc := 34) dX3_restore_34 rfl ?_
    refine x_sipush (M := mX3_restore) (pc := 35) (v := nI 154) dX3_restore_35 (by decide) ?_
    first | with_reducible refine x_icmp_geN (M := mX3_restore) (pc := 38) 69 dX3_restore_38 (by decide) (by omega) (by omega) (fun c1 => ?_) (fun c1 => ?_) | refine x_icmp_ge (M := mX3_restore) (pc := 38) 69 dX3_restore_38 (by decide) (fun c1 => ?_) (fun c1 => ?_)
    · exact hE h hM hF _ _
    · omega
  | succ q ih =>
    intro k hk h hM hF
    refine x_iload_n (M := mX3_restore) (pc := 34) dX3_restore_34 rfl ?_
    refine x_sipush (M := mX3_restore) (pc := 35) (v := nI 154) dX3_restore_35 (by decide) ?_
    first | with_reducible refine x_icmp_geN (M := mX3_restore) (pc := 38) 69 dX3_restore_38 (by decide) (by omega) (by omega) (fun c1 => ?_) (fun c1 => ?_) | refine x_icmp_ge (M := mX3_restore) (pc := 38) 69 dX3_restore_38 (by decide) (fun c1 => ?_) (fun c1 => ?_)
    · omega
    · refine x_aload_n (M := mX3_restore) (pc := 41) dX3_restore_41 rfl ?_
      refine x_get (M := mX3_restore) (pc := 42) kcX3 0 rfl q2835 dX3_restore_42 hM.1 rfl ?_
      refine x_iload_n (M := mX3_restore) (pc := 45) dX3_restore_45 rfl ?_
      refine x_aload_n (M := mX3_restore) (pc := 46) dX3_restore_46 rfl ?_
      refine x_get (M := mX3_restore) (pc := 47) kcX3 0 rfl q2835 dX3_restore_47 hM.1 rfl ?_
      refine x_sipush (M := mX3_restore) (pc := 50) (v := nI 156) dX3_restore_50 (by decide) ?_
      refine x_sipush (M := mX3_restore) (pc := 53) (v := nI 154) dX3_restore_53 (by decide) ?_
      refine x_iload_n (M := mX3_restore) (pc := 56) dX3_restore_56 rfl ?_
      first | with_reducible refine x_imulN (M := mX3_restore) (pc := 57) dX3_restore_57 ?_ | refine x_imul (M := mX3_restore) (pc := 57) dX3_restore_57 ?_
      first | with_reducible refine x_iaddN (M := mX3_restore) (pc := 58) dX3_restore_58 ?_ | refine x_iadd (M := mX3_restore) (pc := 58) dX3_restore_58 ?_
      refine x_iload_n (M := mX3_restore) (pc := 59) dX3_restore_59 rfl ?_
      first | with_reducible refine x_iaddN (M := mX3_restore) (pc := 60) dX3_restore_60 ?_ | refine x_iadd (M := mX3_restore) (pc := 60) dX3_restore_60 ?_
      refine xm_iald (M := mX3_restore) (pc := 61) hM dX3_restore_61 (by decide) (by first | decide | (simp only [mSz] <;> omega)) ?_
      refine xm_iast (M := mX3_restore) (pc := 62) hM hF dX3_restore_62 (by decide) (by first | decide | (simp only [mSz] <;> omega)) (fun h hM hF => ?_)
      first | refine x_iinc2N (M := mX3_restore) (pc := 63) (c := 1) dX3_restore_63 oI1 ?_ | refine x_iinc2 (M := mX3_restore) (pc := 63) (c := 1) dX3_restore_63 (by decide) ?_
      refine x_goto (M := mX3_restore) (pc := 66) 34 dX3_restore_66 (by decide) ?_
      refine ih (k + 1) (by omega) h (hM.up2 fun t => ?_) hF
      simp only [va_up_s, upd, p_res]
      repeat' split
      all_goals first | rfl | (exfalso; omega) | (congr 1; omega)
theorem m_restore (d u : Nat) (hu : u ≤ 5) (hU : I 3 = nI u) (r : Bool) (hr : I 6 = bI r) (hd : 2 ≤ d) (x : Int32) : MC g l mX3_restore d [.int x] m A I B wd (ACT r u I B wd (c_restore (B 0) x)) := by
  intro h hM
  have hF : MF m A h h := MF.rf
  refine Ct.of [some (.ref m), some (.int x), none] (by decide +kernel) rfl (Nat.le_of_ble_eq_true rfl) rfl rfl ?_
  refine x_iload_n (M := mX3_restore) (pc := 0) dX3_restore_0 rfl ?_
  refine x_i2l (M := mX3_restore) (pc := 1) dX3_restore_1 ?_
  refine x_lconst (M := mX3_restore) (pc := 2) (v := 0) dX3_restore_2 (by decide) ?_
  refine x_lconst (M := mX3_restore) (pc := 3) (v := 1) dX3_restore_3 (by decide) ?_
  refine x_S3 (M := mX3_restore) (pc := 4) (M' := mX3_in) q2949 kSX3_in dX3_restore_4 (m_inB h x 0 1 0 1 (by decide) (by decide) (d - 1)) (fun v_ h hq_ => ?_)
  obtain ⟨hv_, rfl⟩ := hq_; cases hv_
  first | with_reducible refine x_ifB_ne (M := mX3_restore) (pc := 7) 12 dX3_restore_7 (by decide) (fun c7 => ?_) (fun c7 => ?_) | with_reducible refine x_if_neN (M := mX3_restore) (pc := 7) 12 dX3_restore_7 (by decide) (by omega) (fun c7 => ?_) (fun c7 => ?_) | refine x_if_ne (M := mX3_restore) (pc := 7) 12 dX3_restore_7 (by decide) (fun c7 => ?_) (fun c7 => ?_)
  rotate_left
  · refine x_iconst (M := mX3_restore) (pc := 10) (v := (-1)) dX3_restore_10 (by decide) ?_
    refine x_iret (M := mX3_restore) (pc := 11) dX3_restore_11 rfl (Nat.le_refl 0) (Nat.le_refl 0) ⟨_, _, _, _, rfl, ?_, hM, hF⟩
    exact act_err (by simp [c_restore, *]) LF.rf
  skip
  obtain ⟨n, rfl, hn1, hn2⟩ := bIn_n (a := 0) (b := 1) (by omega) (by omega) c7
  have hcl : (nI n).toNatClampNeg = n := nI_clamp (by omega)
  refine x_aload_n (M := mX3_restore) (pc := 12) dX3_restore_12 rfl ?_
  refine x_get (M := mX3_restore) (pc := 13) kcX3 0 rfl q2835 dX3_restore_13 hM.1 rfl ?_
  refine x_sipush (M := mX3_restore) (pc := 16) (v := nI 154) dX3_restore_16 (by decide) ?_
  refine x_iload_n (M := mX3_restore) (pc := 19) dX3_restore_19 rfl ?_
  first | with_reducible refine x_iaddN (M := mX3_restore) (pc := 20) dX3_restore_20 ?_ | refine x_iadd (M := mX3_restore) (pc := 20) dX3_restore_20 ?_
  refine xm_iald (M := mX3_restore) (pc := 21) hM dX3_restore_21 (by decide) (by first | decide | (simp only [mSz] <;> omega)) ?_
  refine x_if_ne (M := mX3_restore) (pc := 22) 28 dX3_restore_22 (by decide) (fun r_c => ?_) (fun r_c => ?_)
  rotate_left
  · refine x_bipush (M := mX3_restore) (pc := 25) (v := (-2)) dX3_restore_25 (by decide) ?_
    refine x_iret (M := mX3_restore) (pc := 27) dX3_restore_27 rfl (Nat.le_refl 0) (Nat.le_refl 0) ⟨_, _, _, _, rfl, ?_, hM, hF⟩
    exact act_err (by simp [c_restore, *]) LF.rf
  refine x_aload_n (M := mX3_restore) (pc := 28) dX3_restore_28 rfl ?_
  refine x_V0 (M := mX3_restore) (pc := 29) (M' := mX3_act) q2936 kVX3_act dX3_restore_29 (m_actR (d - 1) u hu hU r hr (by omega) h hM) (hM.is) (fun v_ h hq_ => ?_)
  obtain ⟨v_, I_, B_, wd_, hv_, hQ, hM_, hF_⟩ := hq_
  cases hv_
  replace hF := hF.tr hF_
  replace hM := hM_
  clear hM_ hF_
  obtain ⟨rfl, hR, hw⟩ := hQ; have hb0 := hR.2.1 0 (by omega)
  refine x_iconst (M := mX3_restore) (pc := 32) (v := nI 0) dX3_restore_32 (by decide) ?_
  refine x_istore2 (M := mX3_restore) (pc := 33) dX3_restore_33 ?_
  refine m_restore_l d n (by omega) _ _ (B 0) B_ (fun h hM hF a1 a2 => ?_) 154 0 rfl h (hM.up0 0 fun t => by rw [hb0]; rfl) hF
  refine x_aload_n (M := mX3_restore) (pc := 69) dX3_restore_69 rfl ?_
  refine x_get (M := mX3_restore) (pc := 70) kcX3 0 rfl q2835 dX3_restore_70 hM.1 rfl ?_
  refine x_iconst (M := mX3_restore) (pc := 73) (v := nI 2) dX3_restore_73 (by decide) ?_
  refine xm_ialdV (M := mX3_restore) (pc := 74) hM dX3_restore_74 ((by simp only [va_up_s, p_res]; rw [if_pos (by omega)] : _ = B 0 (156 + 154 * n + 2))) (by decide) (by first | decide | (simp only [mSz] <;> omega)) ?_
  refine x_iret (M := mX3_restore) (pc := 75) dX3_restore_75 rfl (Nat.le_refl 0) (Nat.le_refl 0) ⟨_, _, _, _, rfl, ?_, hM, hF⟩
  exact act_ok (by simp only [c_restore, c7, hcl]; rw [if_neg (by decide), if_neg r_c]) LF.rf hR hw (by simp only [va_up_s]; rfl) (fun j hj => by simp only [va_up_n _ _ hj])
def p_und (s b : Row) (u k : Nat) : Row := fun j => if j < k then b (464 * u + j) else s j
theorem m_undo_l (d u : Nat) (hu : u < 5) (hU : I 3 = nI u) (Q : xO → xH → Prop) (h0 : xH) (B1 : Nat → Nat → Int32) (hE : ∀ h, MR g h m A I (va_up B1 0 (p_und (B1 0) (B1 1) u 464)) wd → MF m A h0 h → ∀ a1, X g l mX3_undo d 0 0 Q 56 [some (.ref m), a1] [] h 0 0) : ∀ q k, k + q = 464 → ∀ h, MR g h m A I (va_up B1 0 (p_und (B1 0) (B1 1) u k)) wd → MF m A h0 h → X g l mX3_undo d 0 0 Q 22 [some (.ref m), some (.int (nI k))] [] h 0 0 := by
  intro q
  induction q with
  | zero =>
    intro k hk h hM hF
    have : k = 464 := by omega
    subst this
    refine x_iload_n (M := mX3_undo) (pc := 22) dX3_undo_22 rfl ?_
    refine x_sipush (M := mX3_undo) (pc := 23) (v := nI 464) dX3_undo_23 (by decide) ?_
    first | with_reducible refine x_icmp_geN (M := mX3_undo) (pc := 26) 56 dX3_undo_26 (by decide) (by omega) (by omega) (fun c1 => ?_) (fun c1 => ?_) | refine x_icmp_ge (M := mX3_undo) (pc := 26) 56 dX3_undo_26 (by decide) (fun c1 => ?_) (fun c1 => ?_)
    · exact hE h hM hF _
    · omega
  | succ q ih =>
    intro k hk h hM hF
    refine x_iload_n (M := mX3_undo) (pc := 22) dX3_undo_22 rfl ?_
    refine x_sipush (M := mX3_undo) (pc := 23) (v := nI 464) dX3_undo_23 (by decide) ?_
    first | with_reducible refine x_icmp_geN (M := mX3_undo) (pc := 26) 56 dX3_undo_26 (by decide) (by omega) (by omega) (fun c1 => ?_) (fun c1 => ?_) | refine x_icmp_ge (M := mX3_undo) (pc := 26) 56 dX3_undo_26 (by decide) (fun c1 => ?_) (fun c1 => ?_)
    · omega
    · refine x_aload_n (M := mX3_undo) (pc := 29) dX3_undo_29 rfl ?_
      refine x_get (M := mX3_undo) (pc := 30) kcX3 0 rfl q2835 dX3_undo_30 hM.1 rfl ?_
      refine x_iload_n (M := mX3_undo) (pc := 33) dX3_undo_33 rfl ?_
      refine x_aload_n (M := mX3_undo) (pc := 34) dX3_undo_34 rfl ?_
      refine x_get (M := mX3_undo) (pc := 35) kcX3 1 rfl q2836 dX3_undo_35 hM.1 rfl ?_
      refine x_sipush (M := mX3_undo) (pc := 38) (v := nI 464) dX3_undo_38 (by decide) ?_
      refine x_aload_n (M := mX3_undo) (pc := 41) dX3_undo_41 rfl ?_
      refine x_get (M := mX3_undo) (pc := 42) kcX3 3 rfl q2838 dX3_undo_42 hM.1 rfl ?_
      refine x_val (M := mX3_undo) (pc := 45) (hU) ?_
      first | with_reducible refine x_imulN (M := mX3_undo) (pc := 45) dX3_undo_45 ?_ | refine x_imul (M := mX3_undo) (pc := 45) dX3_undo_45 ?_
      refine x_iload_n (M := mX3_undo) (pc := 46) dX3_undo_46 rfl ?_
      first | with_reducible refine x_iaddN (M := mX3_undo) (pc := 47) dX3_undo_47 ?_ | refine x_iadd (M := mX3_undo) (pc := 47) dX3_undo_47 ?_
      refine xm_iald (M := mX3_undo) (pc := 48) hM dX3_undo_48 (by decide) (by first | decide | (simp only [mSz] <;> omega)) ?_
      refine xm_iast (M := mX3_undo) (pc := 49) hM hF dX3_undo_49 (by decide) (by first | decide | (simp only [mSz] <;> omega)) (fun h hM hF => ?_)
      first | refine x_iinc1N (M := mX3_undo) (pc := 50) (c := 1) dX3_undo_50 oI1 ?_ | refine x_iinc1 (M := mX3_undo) (pc := 50) (c := 1) dX3_undo_50 (by decide) ?_
      refine x_goto (M := mX3_undo) (pc := 53) 22 dX3_undo_53 (by decide) ?_
      refine ih (k + 1) (by omega) h (hM.up2 fun t => ?_) hF
      simp only [va_up_s, va_up_n _ _ (show (1 : Nat) ≠ 0 by decide), upd, p_und]
      repeat' split
      all_goals first | rfl | (exfalso; omega) | (congr 1; omega)
theorem m_undo (d u : Nat) (hu : u ≤ 5) (hU : I 3 = nI u) : MC g l mX3_undo d [] m A I B wd (fun v I' B' wd' => if u = 0 then v = some (.int (-2)) ∧ I' = I ∧ B' = B ∧ wd' = wd else v = some (.int (nI (u - 1))) ∧ I' = upd I 3 (nI (u - 1)) ∧ B' = va_up B 0 (p_und (B 0) (B 1) (u - 1) 464) ∧ wd' = wd) := by
  intro h hM
  have hF : MF m A h h := MF.rf
  refine Ct.of [some (.ref m), none] (by decide +kernel) rfl (Nat.le_of_ble_eq_true rfl) rfl rfl ?_
  refine x_aload_n (M := mX3_undo) (pc := 0) dX3_undo_0 rfl ?_
  refine x_get (M := mX3_undo) (pc := 1) kcX3 3 rfl q2838 dX3_undo_1 hM.1 rfl ?_
  refine x_val (M := mX3_undo) (pc := 4) (hU) ?_
  first | with_reducible refine x_ifB_ne (M := mX3_undo) (pc := 4) 10 dX3_undo_4 (by decide) (fun c4 => ?_) (fun c4 => ?_) | with_reducible refine x_if_neN (M := mX3_undo) (pc := 4) 10 dX3_undo_4 (by decide) (by omega) (fun c4 => ?_) (fun c4 => ?_) | refine x_if_ne (M := mX3_undo) (pc := 4) 10 dX3_undo_4 (by decide) (fun c4 => ?_) (fun c4 => ?_)
  rotate_left
  · refine x_bipush (M := mX3_undo) (pc := 7) (v := (-2)) dX3_undo_7 (by decide) ?_
    refine x_iret (M := mX3_undo) (pc := 9) dX3_undo_9 rfl (Nat.le_refl 0) (Nat.le_refl 0) ⟨_, _, _, _, rfl, ?_, hM, hF⟩
    show (if u = 0 then _ else _); rw [if_pos c4]; exact ⟨rfl, rfl, rfl, rfl⟩
  refine x_aload_n (M := mX3_undo) (pc := 10) dX3_undo_10 rfl ?_
  refine x_dup (M := mX3_undo) (pc := 11) dX3_undo_11 ?_
  refine x_get (M := mX3_undo) (pc := 12) kcX3 3 rfl q2838 dX3_undo_12 hM.1 rfl ?_
  refine x_val (M := mX3_undo) (pc := 15) (hU) ?_
  refine x_iconst (M := mX3_undo) (pc := 15) (v := nI 1) dX3_undo_15 (by decide) ?_
  first | with_reducible refine x_isubN (M := mX3_undo) (pc := 16) dX3_undo_16 (by omega) ?_ | refine x_isub (M := mX3_undo) (pc := 16) dX3_undo_16 ?_
  refine xm_put3 (M := mX3_undo) (pc := 17) hM hF q2838 dX3_undo_17 (fun h hM hF => ?_)
  refine x_iconst (M := mX3_undo) (pc := 20) (v := nI 0) dX3_undo_20 (by decide) ?_
  refine x_istore1 (M := mX3_undo) (pc := 21) dX3_undo_21 ?_
  refine m_undo_l d (u - 1) (by omega) rfl _ _ B (fun h hM hF a1 => ?_) 464 0 rfl h (hM.up0 0 fun t => rfl) hF
  refine x_aload_n (M := mX3_undo) (pc := 56) dX3_undo_56 rfl ?_
  refine x_get (M := mX3_undo) (pc := 57) kcX3 3 rfl q2838 dX3_undo_57 hM.1 rfl ?_
  refine x_iret (M := mX3_undo) (pc := 60) dX3_undo_60 rfl (Nat.le_refl 0) (Nat.le_refl 0) ⟨_, _, _, _, rfl, ?_, hM, hF⟩
  show (if u = 0 then _ else _)
  rw [if_neg c4]
  exact ⟨rfl, rfl, rfl, rfl⟩
theorem m_append (d n : Nat) (hn : n ≤ 120) (hN : I 4 = nI n) (x : Int32) (hd : 1 ≤ d) : MC g l mX3_append d [.int x] m A I B wd (fun v I' B' wd' => wd' = wd ∧ if bIn x 1 255 = false then v = some (.int (-1)) ∧ I' = I ∧ B' = B else if n = 120 then v = some (.int (-3)) ∧ I' = I ∧ B' = B else v = some (.int (nI (n + 1))) ∧ I' = upd I 4 (nI (n + 1)) ∧ B' = va_up B 5 (upd (B 5) n x)) := by
  intro h hM
  have hF : MF m A h h := MF.rf
  refine Ct.of [some (.ref m), some (.int x)] (by decide +kernel) rfl (Nat.le_of_ble_eq_true rfl) rfl rfl ?_
  refine x_iload_n (M := mX3_append) (pc := 0) dX3_append_0 rfl ?_
  refine x_i2l (M := mX3_append) (pc := 1) dX3_append_1 ?_
  refine x_lconst (M := mX3_append) (pc := 2) (v := 1) dX3_append_2 (by decide) ?_
  refine x_ldc2 (M := mX3_append) (pc := 3) dX3_append_3 q3093 ?_
  refine x_S3 (M := mX3_append) (pc := 6) (M' := mX3_in) q2949 kSX3_in dX3_append_6 (m_inB h x 1 255 1 255 (by decide) (by decide) (d - 1)) (fun v_ h hq_ => ?_)
  obtain ⟨hv_, rfl⟩ := hq_; cases hv_
  first | with_reducible refine x_ifB_ne (M := mX3_append) (pc := 9) 14 dX3_append_9 (by decide) (fun c9 => ?_) (fun c9 => ?_) | with_reducible refine x_if_neN (M := mX3_append) (pc := 9) 14 dX3_append_9 (by decide) (by omega) (fun c9 => ?_) (fun c9 => ?_) | refine x_if_ne (M := mX3_append) (pc := 9) 14 dX3_append_9 (by decide) (fun c9 => ?_) (fun c9 => ?_)
  · refine x_aload_n (M := mX3_append) (pc := 14) dX3_append_14 rfl ?_
    refine x_get (M := mX3_append) (pc := 15) kcX3 4 rfl q2839 dX3_append_15 hM.1 rfl ?_
    refine x_val (M := mX3_append) (pc := 18) (hN) ?_
    refine x_bipush (M := mX3_append) (pc := 18) (v := nI 120) dX3_append_18 (by decide) ?_
    first | with_reducible refine x_icmp_neN (M := mX3_append) (pc := 20) 26 dX3_append_20 (by decide) (by omega) (by omega) (fun c20 => ?_) (fun c20 => ?_) | refine x_icmp_ne (M := mX3_append) (pc := 20) 26 dX3_append_20 (by decide) (fun c20 => ?_) (fun c20 => ?_)
    · refine x_aload_n (M := mX3_append) (pc := 26) dX3_append_26 rfl ?_
      refine x_get (M := mX3_append) (pc := 27) kcX3 5 rfl q2840 dX3_append_27 hM.1 rfl ?_
      refine x_aload_n (M := mX3_append) (pc := 30) dX3_append_30 rfl ?_
      refine x_get (M := mX3_append) (pc := 31) kcX3 4 rfl q2839 dX3_append_31 hM.1 rfl ?_
      refine x_val (M := mX3_append) (pc := 34) (hN) ?_
      refine x_iload_n (M := mX3_append) (pc := 34) dX3_append_34 rfl ?_
      refine xm_iast (M := mX3_append) (pc := 35) hM hF dX3_append_35 (by decide) (by first | decide | (simp only [mSz] <;> omega)) (fun h hM hF => ?_)
      refine x_aload_n (M := mX3_append) (pc := 36) dX3_append_36 rfl ?_
      refine x_dup (M := mX3_append) (pc := 37) dX3_append_37 ?_
      refine x_get (M := mX3_append) (pc := 38) kcX3 4 rfl q2839 dX3_append_38 hM.1 rfl ?_
      refine x_val (M := mX3_append) (pc := 41) (hN) ?_
      refine x_iconst (M := mX3_append) (pc := 41) (v := nI 1) dX3_append_41 (by decide) ?_
      first | with_reducible refine x_iaddN (M := mX3_append) (pc := 42) dX3_append_42 ?_ | refine x_iadd (M := mX3_append) (pc := 42) dX3_append_42 ?_
      refine xm_put4 (M := mX3_append) (pc := 43) hM hF q2839 dX3_append_43 (fun h hM hF => ?_)
      refine x_aload_n (M := mX3_append) (pc := 46) dX3_append_46 rfl ?_
      refine x_get (M := mX3_append) (pc := 47) kcX3 4 rfl q2839 dX3_append_47 hM.1 rfl ?_
      refine x_iret (M := mX3_append) (pc := 50) dX3_append_50 rfl (Nat.le_refl 0) (Nat.le_refl 0) ⟨_, _, _, _, rfl, ?_, hM, hF⟩
      exact ⟨rfl, by rw [if_neg (by rw [c9]; decide), if_neg c20]; exact ⟨rfl, rfl, rfl⟩⟩
    · refine x_bipush (M := mX3_append) (pc := 23) (v := (-3)) dX3_append_23 (by decide) ?_
      refine x_iret (M := mX3_append) (pc := 25) dX3_append_25 rfl (Nat.le_refl 0) (Nat.le_refl 0) ⟨_, _, _, _, rfl, ?_, hM, hF⟩
      exact ⟨rfl, by rw [if_neg (by rw [c9]; decide), if_pos c20]; exact ⟨rfl, rfl, rfl⟩⟩
  · refine x_iconst (M := mX3_append) (pc := 12) (v := (-1)) dX3_append_12 (by decide) ?_
    refine x_iret (M := mX3_append) (pc := 13) dX3_append_13 rfl (Nat.le_refl 0) (Nat.le_refl 0) ⟨_, _, _, _, rfl, ?_, hM, hF⟩
    exact ⟨rfl, by rw [if_pos c9]; exact ⟨rfl, rfl, rfl⟩⟩
theorem m_clearText (d : Nat) : MC g l mX3_clearText d [] m A I B wd (fun v I' B' wd' => v = some (.int (I 4)) ∧ I' = upd I 4 0 ∧ B' = B ∧ wd' = wd) := by
  intro h hM
  have hF : MF m A h h := MF.rf
  refine Ct.of [some (.ref m), none] (by decide +kernel) rfl (Nat.le_of_ble_eq_true rfl) rfl rfl ?_
  refine x_aload_n (M := mX3_clearText) (pc := 0) dX3_clearText_0 rfl ?_
  refine x_get (M := mX3_clearText) (pc := 1) kcX3 4 rfl q2839 dX3_clearText_1 hM.1 rfl ?_
  refine x_istore1 (M := mX3_clearText) (pc := 4) dX3_clearText_4 ?_
  refine x_aload_n (M := mX3_clearText) (pc := 5) dX3_clearText_5 rfl ?_
  refine x_iconst (M := mX3_clearText) (pc := 6) (v := nI 0) dX3_clearText_6 (by decide) ?_
  refine xm_put4 (M := mX3_clearText) (pc := 7) hM hF q2839 dX3_clearText_7 (fun h hM hF => ?_)
  refine x_iload_n (M := mX3_clearText) (pc := 10) dX3_clearText_10 rfl ?_
  refine x_iret (M := mX3_clearText) (pc := 11) dX3_clearText_11 rfl (Nat.le_refl 0) (Nat.le_refl 0) ⟨_, _, _, _, rfl, ?_, hM, hF⟩
  exact ⟨rfl, rfl, rfl, rfl⟩
end MODELA

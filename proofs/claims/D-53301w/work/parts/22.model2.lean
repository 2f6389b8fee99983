section MODEL2
set_option maxRecDepth 100000
theorem va_up_s {α : Type} (f : Nat → α) (k : Nat) (v : α) : va_up f k v k = v := by simp [va_up]
theorem va_up_n {α : Type} (f : Nat → α) {k j : Nat} (v : α) (h : j ≠ k) : va_up f k v j = f j := by simp [va_up, h]
theorem va_up_id {α : Type} (f : Nat → α) (k : Nat) : va_up f k (f k) = f := by funext j; by_cases h : j = k <;> simp [va_up, h]
theorem MR.up {g : xG} {h : xH} {m : Nat} {A : Nat → Nat} {I : Nat → Int32} {B : Nat → Nat → Int32} {wd : Int64} {j : Nat} {f f' : Nat → Int32} (hM : MR g h m A I (va_up B j f) wd) (e : ∀ t, f t = f' t) : MR g h m A I (va_up B j f') wd := by
  rw [← show f = f' by funext t; exact e t]; exact hM
theorem MR.up2 {g : xG} {h : xH} {m : Nat} {A : Nat → Nat} {I : Nat → Int32} {B : Nat → Nat → Int32} {wd : Int64} {j : Nat} {f f' f2 : Nat → Int32} (hM : MR g h m A I (va_up (va_up B j f) j f2) wd) (e : ∀ t, f2 t = f' t) : MR g h m A I (va_up B j f') wd := by
  rw [← show f2 = f' by funext t; exact e t]; rw [bx_uu] at hM; exact hM
theorem MR.up0 {g : xG} {h : xH} {m : Nat} {A : Nat → Nat} {I : Nat → Int32} {B : Nat → Nat → Int32} {wd : Int64} (hM : MR g h m A I B wd) (j : Nat) {f' : Nat → Int32} (e : ∀ t, B j t = f' t) : MR g h m A I (va_up B j f') wd := by
  rw [← show B j = f' by funext t; exact e t, va_up_id]; exact hM
variable {g : xG} {l : Launch} {m : Nat} {A : Nat → Nat} {I : Nat → Int32} {B : Nat → Nat → Int32} {wd : Int64}
def p_shift (k : Nat) (b : Nat → Int32) : Nat → Int32 := fun t => if t < k then b (464 + t) else b t
def p_push (k u : Nat) (b s : Nat → Int32) : Nat → Int32 := fun t => if 464 * u ≤ t ∧ t < 464 * u + k then s (t - 464 * u) else b t
theorem m_record_l1 (d : Nat) (Q : xO → xH → Prop) (h0 : xH) (hE : ∀ h, MR g h m A I (va_up B 1 (p_shift 1856 (B 1))) wd → MF m A h0 h → X g l mX3_record d 0 0 Q 39 [some (.ref m), some (.int (nI 1856))] [] h 0 0) : ∀ n k, k + n = 1856 → ∀ h, MR g h m A I (va_up B 1 (p_shift k (B 1))) wd → MF m A h0 h → X g l mX3_record d 0 0 Q 10 [some (.ref m), some (.int (nI k))] [] h 0 0 := by
  intro n
  induction n with
  | zero =>
    intro k hk h hM hF
    have : k = 1856 := by omega
    subst this
    refine x_iload_n (M := mX3_record) (pc := 10) dX3_record_10 rfl ?_
    refine x_sipush (M := mX3_record) (pc := 11) (v := nI 1856) dX3_record_11 (by decide) ?_
    first | with_reducible refine x_icmp_geN (M := mX3_record) (pc := 14) 39 dX3_record_14 (by decide) (by omega) (by omega) (fun c1 => ?_) (fun c1 => ?_) | refine x_icmp_ge (M := mX3_record) (pc := 14) 39 dX3_record_14 (by decide) (fun c1 => ?_) (fun c1 => ?_)
    · exact hE h hM hF
    · omega
  | succ n ih =>
    intro k hk h hM hF
    refine x_iload_n (M := mX3_record) (pc := 10) dX3_record_10 rfl ?_
    refine x_sipush (M := mX3_record) (pc := 11) (v := nI 1856) dX3_record_11 (by decide) ?_
    first | with_reducible refine x_icmp_geN (M := mX3_record) (pc := 14) 39 dX3_record_14 (by decide) (by omega) (by omega) (fun c1 => ?_) (fun c1 => ?_) | refine x_icmp_ge (M := mX3_record) (pc := 14) 39 dX3_record_14 (by decide) (fun c1 => ?_) (fun c1 => ?_)
    · omega
    · refine x_aload_n (M := mX3_record) (pc := 17) dX3_record_17 rfl ?_
      refine x_get (M := mX3_record) (pc := 18) kcX3 1 rfl q2836 dX3_record_18 hM.1 rfl ?_
      refine x_iload_n (M := mX3_record) (pc := 21) dX3_record_21 rfl ?_
      refine x_aload_n (M := mX3_record) (pc := 22) dX3_record_22 rfl ?_
      refine x_get (M := mX3_record) (pc := 23) kcX3 1 rfl q2836 dX3_record_23 hM.1 rfl ?_
      refine x_sipush (M := mX3_record) (pc := 26) (v := nI 464) dX3_record_26 (by decide) ?_
      refine x_iload_n (M := mX3_record) (pc := 29) dX3_record_29 rfl ?_
      first | with_reducible refine x_iaddN (M := mX3_record) (pc := 30) dX3_record_30 ?_ | refine x_iadd (M := mX3_record) (pc := 30) dX3_record_30 ?_
      refine xm_iald (M := mX3_record) (pc := 31) hM dX3_record_31 (by decide) (by first | decide | (simp only [mSz] <;> omega)) ?_
      refine xm_iast (M := mX3_record) (pc := 32) hM hF dX3_record_32 (by decide) (by first | decide | (simp only [mSz] <;> omega)) (fun h hM hF => ?_)
      first | refine x_iinc1N (M := mX3_record) (pc := 33) (c := 1) dX3_record_33 oI1 ?_ | refine x_iinc1 (M := mX3_record) (pc := 33) (c := 1) dX3_record_33 (by decide) ?_
      refine x_goto (M := mX3_record) (pc := 36) 10 dX3_record_36 (by decide) ?_
      refine ih (k + 1) (by omega) h (hM.up2 fun t => ?_) hF
      simp only [va_up_s, upd, p_shift]
      repeat' split
      all_goals first | rfl | (exfalso; omega) | (congr 1; omega)
theorem m_record_l2 (d u : Nat) (hu : u ≤ 4) (hU : I 3 = nI u) (Q : xO → xH → Prop) (h0 : xH) (hE : ∀ h, MR g h m A I (va_up B 1 (p_push 464 u (B 1) (B 0))) wd → MF m A h0 h → X g l mX3_record d 0 0 Q 85 [some (.ref m), some (.int (nI 464))] [] h 0 0) : ∀ n k, k + n = 464 → ∀ h, MR g h m A I (va_up B 1 (p_push k u (B 1) (B 0))) wd → MF m A h0 h → X g l mX3_record d 0 0 Q 51 [some (.ref m), some (.int (nI k))] [] h 0 0 := by
  intro n
  induction n with
  | zero =>
    intro k hk h hM hF
    have : k = 464 := by omega
    subst this
    refine x_iload_n (M := mX3_record) (pc := 51) dX3_record_51 rfl ?_
    refine x_sipush (M := mX3_record) (pc := 52) (v := nI 464) dX3_record_52 (by decide) ?_
    first | with_reducible refine x_icmp_geN (M := mX3_record) (pc := 55) 85 dX3_record_55 (by decide) (by omega) (by omega) (fun c1 => ?_) (fun c1 => ?_) | refine x_icmp_ge (M := mX3_record) (pc := 55) 85 dX3_record_55 (by decide) (fun c1 => ?_) (fun c1 => ?_)
    · exact hE h hM hF
    · omega
  | succ n ih =>
    intro k hk h hM hF
    refine x_iload_n (M := mX3_record) (pc := 51) dX3_record_51 rfl ?_
    refine x_sipush (M := mX3_record) (pc := 52) (v := nI 464) dX3_record_52 (by decide) ?_
    first | with_reducible refine x_icmp_geN (M := mX3_record) (pc := 55) 85 dX3_record_55 (by decide) (by omega) (by omega) (fun c1 => ?_) (fun c1 => ?_) | refine x_icmp_ge (M := mX3_record) (pc := 55) 85 dX3_record_55 (by decide) (fun c1 => ?_) (fun c1 => ?_)
    · omega
    · refine x_aload_n (M := mX3_record) (pc := 58) dX3_record_58 rfl ?_
      refine x_get (M := mX3_record) (pc := 59) kcX3 1 rfl q2836 dX3_record_59 hM.1 rfl ?_
      refine x_sipush (M := mX3_record) (pc := 62) (v := nI 464) dX3_record_62 (by decide) ?_
      refine x_aload_n (M := mX3_record) (pc := 65) dX3_record_65 rfl ?_
      refine x_get (M := mX3_record) (pc := 66) kcX3 3 rfl q2838 dX3_record_66 hM.1 rfl ?_
      refine x_val (M := mX3_record) (pc := 69) (hU) ?_
      first | with_reducible refine x_imulN (M := mX3_record) (pc := 69) dX3_record_69 ?_ | refine x_imul (M := mX3_record) (pc := 69) dX3_record_69 ?_
      refine x_iload_n (M := mX3_record) (pc := 70) dX3_record_70 rfl ?_
      first | with_reducible refine x_iaddN (M := mX3_record) (pc := 71) dX3_record_71 ?_ | refine x_iadd (M := mX3_record) (pc := 71) dX3_record_71 ?_
      refine x_aload_n (M := mX3_record) (pc := 72) dX3_record_72 rfl ?_
      refine x_get (M := mX3_record) (pc := 73) kcX3 0 rfl q2835 dX3_record_73 hM.1 rfl ?_
      refine x_iload_n (M := mX3_record) (pc := 76) dX3_record_76 rfl ?_
      refine xm_iald (M := mX3_record) (pc := 77) hM dX3_record_77 (by decide) (by first | decide | (simp only [mSz] <;> omega)) ?_
      refine xm_iast (M := mX3_record) (pc := 78) hM hF dX3_record_78 (by decide) (by first | decide | (simp only [mSz] <;> omega)) (fun h hM hF => ?_)
      first | refine x_iinc1N (M := mX3_record) (pc := 79) (c := 1) dX3_record_79 oI1 ?_ | refine x_iinc1 (M := mX3_record) (pc := 79) (c := 1) dX3_record_79 (by decide) ?_
      refine x_goto (M := mX3_record) (pc := 82) 51 dX3_record_82 (by decide) ?_
      refine ih (k + 1) (by omega) h (hM.up2 fun t => ?_) hF
      simp only [va_up_s, va_up_n _ _ (show (0 : Nat) ≠ 1 by decide), upd, p_push]
      repeat' split
      all_goals first | rfl | (exfalso; omega) | (congr 1; omega)
/-- how many states are kept, and they, behind one more -/
def p_recN (u : Nat) : Nat := if u = 5 then 4 else u
def p_recB (u : Nat) (b s : Nat → Int32) : Nat → Int32 := p_push 464 (p_recN u) (if u = 5 then p_shift 1856 b else b) s
theorem m_record (d u : Nat) (hu : u ≤ 5) (hU : I 3 = nI u) : MC g l mX3_record d [] m A I B wd (fun v I' B' wd' => v = none ∧ I' = upd I 3 (nI (p_recN u + 1)) ∧ B' = va_up B 1 (p_recB u (B 1) (B 0)) ∧ wd' = wd) := by
  intro h hM
  have hF : MF m A h h := MF.rf
  refine Ct.of [some (.ref m), none] (by decide +kernel) rfl (Nat.le_of_ble_eq_true rfl) rfl rfl ?_
  refine x_aload_n (M := mX3_record) (pc := 0) dX3_record_0 rfl ?_
  refine x_get (M := mX3_record) (pc := 1) kcX3 3 rfl q2838 dX3_record_1 hM.1 rfl ?_
  refine x_val (M := mX3_record) (pc := 4) (hU) ?_
  refine x_iconst (M := mX3_record) (pc := 4) (v := nI 5) dX3_record_4 (by decide) ?_
  first | with_reducible refine x_icmp_neN (M := mX3_record) (pc := 5) 49 dX3_record_5 (by decide) (by omega) (by omega) (fun c5 => ?_) (fun c5 => ?_) | refine x_icmp_ne (M := mX3_record) (pc := 5) 49 dX3_record_5 (by decide) (fun c5 => ?_) (fun c5 => ?_)
  · refine x_iconst (M := mX3_record) (pc := 49) (v := nI 0) dX3_record_49 (by decide) ?_
    refine x_istore1 (M := mX3_record) (pc := 50) dX3_record_50 ?_
    have e1 : p_recN u = u := by simp [p_recN, c5]
    refine m_record_l2 (B := B) d u (by omega) hU _ h (fun h hM hF => ?_) 464 0 rfl h (hM.up0 1 fun t => ?_) hF
    · refine x_aload_n (M := mX3_record) (pc := 85) dX3_record_85 rfl ?_
      refine x_dup (M := mX3_record) (pc := 86) dX3_record_86 ?_
      refine x_get (M := mX3_record) (pc := 87) kcX3 3 rfl q2838 dX3_record_87 hM.1 rfl ?_
      refine x_val (M := mX3_record) (pc := 90) (hU) ?_
      refine x_iconst (M := mX3_record) (pc := 90) (v := nI 1) dX3_record_90 (by decide) ?_
      first | with_reducible refine x_iaddN (M := mX3_record) (pc := 91) dX3_record_91 ?_ | refine x_iadd (M := mX3_record) (pc := 91) dX3_record_91 ?_
      refine xm_put3 (M := mX3_record) (pc := 92) hM hF q2838 dX3_record_92 (fun h hM hF => ?_)
      refine x_vret (M := mX3_record) (pc := 95) dX3_record_95 rfl (Nat.le_refl 0) (Nat.le_refl 0) ⟨_, _, _, _, rfl, ?_, hM, hF⟩
      refine ⟨rfl, by rw [e1], ?_, rfl⟩
      rw [p_recB, e1, if_neg c5]
    · simp only [p_push]; rw [if_neg (by omega)]
  · refine x_iconst (M := mX3_record) (pc := 8) (v := nI 0) dX3_record_8 (by decide) ?_
    refine x_istore1 (M := mX3_record) (pc := 9) dX3_record_9 ?_
    have e1 : p_recN u = 4 := by simp [p_recN, c5]
    refine m_record_l1 (B := B) d _ h (fun h hM hF => ?_) 1856 0 rfl h (hM.up0 1 fun t => ?_) hF
    · refine x_aload_n (M := mX3_record) (pc := 39) dX3_record_39 rfl ?_
      refine x_dup (M := mX3_record) (pc := 40) dX3_record_40 ?_
      refine x_get (M := mX3_record) (pc := 41) kcX3 3 rfl q2838 dX3_record_41 hM.1 rfl ?_
      refine x_val (M := mX3_record) (pc := 44) (hU.trans (by rw [c5])) ?_
      refine x_iconst (M := mX3_record) (pc := 44) (v := nI 1) dX3_record_44 (by decide) ?_
      first | with_reducible refine x_isubN (M := mX3_record) (pc := 45) dX3_record_45 (by omega) ?_ | refine x_isub (M := mX3_record) (pc := 45) dX3_record_45 ?_
      refine xm_put3 (M := mX3_record) (pc := 46) hM hF q2838 dX3_record_46 (fun h hM hF => ?_)
      refine x_iconst (M := mX3_record) (pc := 49) (v := nI 0) dX3_record_49 (by decide) ?_
      refine x_istore1 (M := mX3_record) (pc := 50) dX3_record_50 ?_
      refine m_record_l2 (B := va_up B 1 (p_shift 1856 (B 1))) d 4 (by omega) rfl _ _ (fun h hM hF => ?_) 464 0 rfl h (hM.up0 1 fun t => ?_) hF
      · refine x_aload_n (M := mX3_record) (pc := 85) dX3_record_85 rfl ?_
        refine x_dup (M := mX3_record) (pc := 86) dX3_record_86 ?_
        refine x_get (M := mX3_record) (pc := 87) kcX3 3 rfl q2838 dX3_record_87 hM.1 rfl ?_
        refine x_iconst (M := mX3_record) (pc := 90) (v := nI 1) dX3_record_90 (by decide) ?_
        first | with_reducible refine x_iaddN (M := mX3_record) (pc := 91) dX3_record_91 ?_ | refine x_iadd (M := mX3_record) (pc := 91) dX3_record_91 ?_
        refine xm_put3 (M := mX3_record) (pc := 92) hM hF q2838 dX3_record_92 (fun h hM hF => ?_)
        refine x_vret (M := mX3_record) (pc := 95) dX3_record_95 rfl (Nat.le_refl 0) (Nat.le_refl 0) ⟨_, _, _, _, rfl, ?_, hM, hF⟩
        refine ⟨rfl, ?_, ?_, rfl⟩
        · rw [e1]; funext j; by_cases hj : j = 3 <;> simp [upd, hj] <;> rfl
        · rw [p_recB, e1, if_pos c5, bx_uu, va_up_s, va_up_n _ _ (by decide)]
      · simp only [p_push]; rw [if_neg (by omega)]
    · simp only [p_shift]; rw [if_neg (by omega)]
theorem m_act (d u : Nat) (hu : u ≤ 5) (hU : I 3 = nI u) (r : Bool) (hr : I 6 = bI r) (hd : 1 ≤ d) : MC g l mX3_act d [] m A I B wd (fun v I' B' wd' => v = none ∧ I' = (if r then I else upd I 3 (nI (p_recN u + 1))) ∧ B' = (if r then B else va_up B 1 (p_recB u (B 1) (B 0))) ∧ wd' = wd) := by
  intro h hM
  have hF : MF m A h h := MF.rf
  refine Ct.of [some (.ref m)] (by decide +kernel) rfl (Nat.le_of_ble_eq_true rfl) rfl rfl ?_
  refine x_aload_n (M := mX3_act) (pc := 0) dX3_act_0 rfl ?_
  refine x_get (M := mX3_act) (pc := 1) kcX3 6 rfl q2841 dX3_act_1 hM.1 rfl ?_
  refine x_val (M := mX3_act) (pc := 4) (hr) ?_
  first | with_reducible refine x_ifB_ne (M := mX3_act) (pc := 4) 11 dX3_act_4 (by decide) (fun c4 => ?_) (fun c4 => ?_) | with_reducible refine x_if_neN (M := mX3_act) (pc := 4) 11 dX3_act_4 (by decide) (by omega) (fun c4 => ?_) (fun c4 => ?_) | refine x_if_ne (M := mX3_act) (pc := 4) 11 dX3_act_4 (by decide) (fun c4 => ?_) (fun c4 => ?_)
  · refine x_vret (M := mX3_act) (pc := 11) dX3_act_11 rfl (Nat.le_refl 0) (Nat.le_refl 0) ⟨_, _, _, _, rfl, ?_, hM, hF⟩
    subst c4; exact ⟨rfl, rfl, rfl, rfl⟩
  · refine x_aload_n (M := mX3_act) (pc := 7) dX3_act_7 rfl ?_
    refine x_V0 (M := mX3_act) (pc := 8) (M' := mX3_record) q2940 kVX3_record dX3_act_8 (m_record (d - 1) u hu hU h hM) (hM.is) (fun v_ h hq_ => ?_)
    obtain ⟨v_, I_, B_, wd_, hv_, hQ, hM_, hF_⟩ := hq_
    cases hv_
    replace hF := hF.tr hF_
    replace hM := hM_
    clear hM_ hF_
    obtain ⟨e1_, e2_, e3_, e4_⟩ := hQ; rw [e2_, e3_, e4_] at hM; subst e1_; clear e2_ e3_ e4_
    refine x_vret (M := mX3_act) (pc := 11) dX3_act_11 rfl (Nat.le_refl 0) (Nat.le_refl 0) ⟨_, _, _, _, rfl, ?_, hM, hF⟩
    subst c4; exact ⟨rfl, rfl, rfl, rfl⟩
end MODEL2

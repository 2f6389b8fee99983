section MODELW
set_option maxRecDepth 100000
theorem nI_nl {n : Nat} (h : n < 2 ^ 31) : ¬ nI n < 0 := by
  intro q
  exact absurd (nI_pos' h) (Int32.not_le.mpr q)
variable {g : xG} {l : Launch} {m : Nat} {A : Nat → Nat} {I : Nat → Int32} {B : Nat → Nat → Int32} {wd : Int64}
/-- the first k of t, then s -/
def p_cp (s t : Row) (k : Nat) : Row := fun j => if j < k then t j else s j
theorem m_run_l1 (d : Nat) (Q : xO → xH → Prop) (h0 : xH) (a2 a3 : Option Value) (hE : ∀ h, MR g h m A I (va_up B 2 (p_cp (B 2) (B 0) 464)) wd → MF m A h0 h → X g l mX3_run d 0 0 Q 27 [some (.ref m), some (.int (nI 464)), a2, a3] [] h 0 0) : ∀ q k, k + q = 464 → ∀ h, MR g h m A I (va_up B 2 (p_cp (B 2) (B 0) k)) wd → MF m A h0 h → X g l mX3_run d 0 0 Q 2 [some (.ref m), some (.int (nI k)), a2, a3] [] h 0 0 := by
  intro q
  induction q with
  | zero =>
    intro k hk h hM hF
    have : k = 464 := by omega
    subst this
    refine x_iload_n (M := mX3_run) (pc := 2) dX3_run_2 rfl ?_
    refine x_sipush (M := mX3_run) (pc := 3) (v := nI 464) dX3_run_3 (by decide) ?_
    first | with_reducible refine x_icmp_geN (M := mX3_run) (pc := 6) 27 dX3_run_6 (by decide) (by omega) (by omega) (fun c1 => ?_) (fun c1 => ?_) | refine x_icmp_ge (M := mX3_run) (pc := 6) 27 dX3_run_6 (by decide) (fun c1 => ?_) (fun c1 => ?_)
    · exact hE h hM hF
    · omega
  | succ q ih =>
    intro k hk h hM hF
    refine x_iload_n (M := mX3_run) (pc := 2) dX3_run_2 rfl ?_
    refine x_sipush (M := mX3_run) (pc := 3) (v := nI 464) dX3_run_3 (by decide) ?_
    first | with_reducible refine x_icmp_geN (M := mX3_run) (pc := 6) 27 dX3_run_6 (by decide) (by omega) (by omega) (fun c1 => ?_) (fun c1 => ?_) | refine x_icmp_ge (M := mX3_run) (pc := 6) 27 dX3_run_6 (by decide) (fun c1 => ?_) (fun c1 => ?_)
    · omega
    · refine x_aload_n (M := mX3_run) (pc := 9) dX3_run_9 rfl ?_
      refine x_get (M := mX3_run) (pc := 10) kcX3 2 rfl q2837 dX3_run_10 hM.1 rfl ?_
      refine x_iload_n (M := mX3_run) (pc := 13) dX3_run_13 rfl ?_
      refine x_aload_n (M := mX3_run) (pc := 14) dX3_run_14 rfl ?_
      refine x_get (M := mX3_run) (pc := 15) kcX3 0 rfl q2835 dX3_run_15 hM.1 rfl ?_
      refine x_iload_n (M := mX3_run) (pc := 18) dX3_run_18 rfl ?_
      refine xm_iald (M := mX3_run) (pc := 19) hM dX3_run_19 (by decide) (by first | decide | (simp only [mSz] <;> omega)) ?_
      refine xm_iast (M := mX3_run) (pc := 20) hM hF dX3_run_20 (by decide) (by first | decide | (simp only [mSz] <;> omega)) (fun h hM hF => ?_)
      first | refine x_iinc1N (M := mX3_run) (pc := 21) (c := 1) dX3_run_21 oI1 ?_ | refine x_iinc1 (M := mX3_run) (pc := 21) (c := 1) dX3_run_21 (by decide) ?_
      refine x_goto (M := mX3_run) (pc := 24) 2 dX3_run_24 (by decide) ?_
      refine ih (k + 1) (by omega) h (hM.up2 fun t => ?_) hF
      simp only [va_up_s, va_up_n _ _ (show (0 : Nat) ≠ 2 by decide), upd, p_cp]
      repeat' split
      all_goals first | rfl | (exfalso; omega) | (congr 1; omega)
theorem m_run_l2 (d : Nat) (Q : xO → xH → Prop) (h0 : xH) (n : Int32) (a3 : Option Value) (hE : ∀ h, MR g h m A I (va_up B 0 (p_cp (B 0) (B 2) 464)) wd → MF m A h0 h → X g l mX3_run d 0 0 Q 76 [some (.ref m), some (.int n), some (.int (nI 464)), a3] [] h 0 0) : ∀ q k, k + q = 464 → ∀ h, MR g h m A I (va_up B 0 (p_cp (B 0) (B 2) k)) wd → MF m A h0 h → X g l mX3_run d 0 0 Q 51 [some (.ref m), some (.int n), some (.int (nI k)), a3] [] h 0 0 := by
  intro q
  induction q with
  | zero =>
    intro k hk h hM hF
    have : k = 464 := by omega
    subst this
    refine x_iload_n (M := mX3_run) (pc := 51) dX3_run_51 rfl ?_
    refine x_sipush (M := mX3_run) (pc := 52) (v := nI 464) dX3_run_52 (by decide) ?_
    first | with_reducible refine x_icmp_geN (M := mX3_run) (pc := 55) 76 dX3_run_55 (by decide) (by omega) (by omega) (fun c1 => ?_) (fun c1 => ?_) | refine x_icmp_ge (M := mX3_run) (pc := 55) 76 dX3_run_55 (by decide) (fun c1 => ?_) (fun c1 => ?_)
    · exact hE h hM hF
    · omega
  | succ q ih =>
    intro k hk h hM hF
    refine x_iload_n (M := mX3_run) (pc := 51) dX3_run_51 rfl ?_
    refine x_sipush (M := mX3_run) (pc := 52) (v := nI 464) dX3_run_52 (by decide) ?_
    first | with_reducible refine x_icmp_geN (M := mX3_run) (pc := 55) 76 dX3_run_55 (by decide) (by omega) (by omega) (fun c1 => ?_) (fun c1 => ?_) | refine x_icmp_ge (M := mX3_run) (pc := 55) 76 dX3_run_55 (by decide) (fun c1 => ?_) (fun c1 => ?_)
    · omega
    · refine x_aload_n (M := mX3_run) (pc := 58) dX3_run_58 rfl ?_
      refine x_get (M := mX3_run) (pc := 59) kcX3 0 rfl q2835 dX3_run_59 hM.1 rfl ?_
      refine x_iload_n (M := mX3_run) (pc := 62) dX3_run_62 rfl ?_
      refine x_aload_n (M := mX3_run) (pc := 63) dX3_run_63 rfl ?_
      refine x_get (M := mX3_run) (pc := 64) kcX3 2 rfl q2837 dX3_run_64 hM.1 rfl ?_
      refine x_iload_n (M := mX3_run) (pc := 67) dX3_run_67 rfl ?_
      refine xm_iald (M := mX3_run) (pc := 68) hM dX3_run_68 (by decide) (by first | decide | (simp only [mSz] <;> omega)) ?_
      refine xm_iast (M := mX3_run) (pc := 69) hM hF dX3_run_69 (by decide) (by first | decide | (simp only [mSz] <;> omega)) (fun h hM hF => ?_)
      first | refine x_iinc2N (M := mX3_run) (pc := 70) (c := 1) dX3_run_70 oI1 ?_ | refine x_iinc2 (M := mX3_run) (pc := 70) (c := 1) dX3_run_70 (by decide) ?_
      refine x_goto (M := mX3_run) (pc := 73) 51 dX3_run_73 (by decide) ?_
      refine ih (k + 1) (by omega) h (hM.up2 fun t => ?_) hF
      simp only [va_up_s, va_up_n _ _ (show (2 : Nat) ≠ 0 by decide), upd, p_cp]
      repeat' split
      all_goals first | rfl | (exfalso; omega) | (congr 1; omega)
theorem m_run_l4 (d : Nat) (Q : xO → xH → Prop) (h0 : xH) (n : Int32) (a3 : Option Value) (hE : ∀ h, MR g h m A I (va_up B 0 (p_cp (B 0) (B 2) 464)) wd → MF m A h0 h → X g l mX3_run d 0 0 Q 157 [some (.ref m), some (.int n), some (.int (nI 464)), a3] [] h 0 0) : ∀ q k, k + q = 464 → ∀ h, MR g h m A I (va_up B 0 (p_cp (B 0) (B 2) k)) wd → MF m A h0 h → X g l mX3_run d 0 0 Q 132 [some (.ref m), some (.int n), some (.int (nI k)), a3] [] h 0 0 := by
  intro q
  induction q with
  | zero =>
    intro k hk h hM hF
    have : k = 464 := by omega
    subst this
    refine x_iload_n (M := mX3_run) (pc := 132) dX3_run_132 rfl ?_
    refine x_sipush (M := mX3_run) (pc := 133) (v := nI 464) dX3_run_133 (by decide) ?_
    first | with_reducible refine x_icmp_geN (M := mX3_run) (pc := 136) 157 dX3_run_136 (by decide) (by omega) (by omega) (fun c1 => ?_) (fun c1 => ?_) | refine x_icmp_ge (M := mX3_run) (pc := 136) 157 dX3_run_136 (by decide) (fun c1 => ?_) (fun c1 => ?_)
    · exact hE h hM hF
    · omega
  | succ q ih =>
    intro k hk h hM hF
    refine x_iload_n (M := mX3_run) (pc := 132) dX3_run_132 rfl ?_
    refine x_sipush (M := mX3_run) (pc := 133) (v := nI 464) dX3_run_133 (by decide) ?_
    first | with_reducible refine x_icmp_geN (M := mX3_run) (pc := 136) 157 dX3_run_136 (by decide) (by omega) (by omega) (fun c1 => ?_) (fun c1 => ?_) | refine x_icmp_ge (M := mX3_run) (pc := 136) 157 dX3_run_136 (by decide) (fun c1 => ?_) (fun c1 => ?_)
    · omega
    · refine x_aload_n (M := mX3_run) (pc := 139) dX3_run_139 rfl ?_
      refine x_get (M := mX3_run) (pc := 140) kcX3 0 rfl q2835 dX3_run_140 hM.1 rfl ?_
      refine x_iload_n (M := mX3_run) (pc := 143) dX3_run_143 rfl ?_
      refine x_aload_n (M := mX3_run) (pc := 144) dX3_run_144 rfl ?_
      refine x_get (M := mX3_run) (pc := 145) kcX3 2 rfl q2837 dX3_run_145 hM.1 rfl ?_
      refine x_iload_n (M := mX3_run) (pc := 148) dX3_run_148 rfl ?_
      refine xm_iald (M := mX3_run) (pc := 149) hM dX3_run_149 (by decide) (by first | decide | (simp only [mSz] <;> omega)) ?_
      refine xm_iast (M := mX3_run) (pc := 150) hM hF dX3_run_150 (by decide) (by first | decide | (simp only [mSz] <;> omega)) (fun h hM hF => ?_)
      first | refine x_iinc2N (M := mX3_run) (pc := 151) (c := 1) dX3_run_151 oI1 ?_ | refine x_iinc2 (M := mX3_run) (pc := 151) (c := 1) dX3_run_151 (by decide) ?_
      refine x_goto (M := mX3_run) (pc := 154) 132 dX3_run_154 (by decide) ?_
      refine ih (k + 1) (by omega) h (hM.up2 fun t => ?_) hF
      simp only [va_up_s, va_up_n _ _ (show (2 : Nat) ≠ 0 by decide), upd, p_cp]
      repeat' split
      all_goals first | rfl | (exfalso; omega) | (congr 1; omega)
theorem m_run_l3 (d : Nat) (Q : xO → xH → Prop) (h0 : xH) (n : Int32) (S T : Row) (hE : ∀ h a3, MR g h m A I (va_up (va_up B 0 (p_cp S T 464)) 2 (p_cp T S 464)) wd → MF m A h0 h → X g l mX3_run d 0 0 Q 126 [some (.ref m), some (.int n), some (.int (nI 464)), a3] [] h 0 0) : ∀ q k, k + q = 464 → ∀ h a3, MR g h m A I (va_up (va_up B 0 (p_cp S T k)) 2 (p_cp T S k)) wd → MF m A h0 h → X g l mX3_run d 0 0 Q 87 [some (.ref m), some (.int n), some (.int (nI k)), a3] [] h 0 0 := by
  intro q
  induction q with
  | zero =>
    intro k hk h a3 hM hF
    have : k = 464 := by omega
    subst this
    refine x_iload_n (M := mX3_run) (pc := 87) dX3_run_87 rfl ?_
    refine x_sipush (M := mX3_run) (pc := 88) (v := nI 464) dX3_run_88 (by decide) ?_
    first | with_reducible refine x_icmp_geN (M := mX3_run) (pc := 91) 126 dX3_run_91 (by decide) (by omega) (by omega) (fun c1 => ?_) (fun c1 => ?_) | refine x_icmp_ge (M := mX3_run) (pc := 91) 126 dX3_run_91 (by decide) (fun c1 => ?_) (fun c1 => ?_)
    · exact hE h a3 hM hF
    · omega
  | succ q ih =>
    intro k hk h a3 hM hF
    have e0 : ∀ x : Row, (va_up (va_up B 0 (p_cp S T k)) 2 x) 0 = p_cp S T k := fun x => by rw [va_up_n _ _ (by decide), va_up_s]
    refine x_iload_n (M := mX3_run) (pc := 87) dX3_run_87 rfl ?_
    refine x_sipush (M := mX3_run) (pc := 88) (v := nI 464) dX3_run_88 (by decide) ?_
    first | with_reducible refine x_icmp_geN (M := mX3_run) (pc := 91) 126 dX3_run_91 (by decide) (by omega) (by omega) (fun c1 => ?_) (fun c1 => ?_) | refine x_icmp_ge (M := mX3_run) (pc := 91) 126 dX3_run_91 (by decide) (fun c1 => ?_) (fun c1 => ?_)
    · omega
    · refine x_aload_n (M := mX3_run) (pc := 94) dX3_run_94 rfl ?_
      refine x_get (M := mX3_run) (pc := 95) kcX3 0 rfl q2835 dX3_run_95 hM.1 rfl ?_
      refine x_iload_n (M := mX3_run) (pc := 98) dX3_run_98 rfl ?_
      refine xm_iald (M := mX3_run) (pc := 99) hM dX3_run_99 (by decide) (by first | decide | (simp only [mSz] <;> omega)) ?_
      refine x_istore3 (M := mX3_run) (pc := 100) dX3_run_100 ?_
      refine x_aload_n (M := mX3_run) (pc := 101) dX3_run_101 rfl ?_
      refine x_get (M := mX3_run) (pc := 102) kcX3 0 rfl q2835 dX3_run_102 hM.1 rfl ?_
      refine x_iload_n (M := mX3_run) (pc := 105) dX3_run_105 rfl ?_
      refine x_aload_n (M := mX3_run) (pc := 106) dX3_run_106 rfl ?_
      refine x_get (M := mX3_run) (pc := 107) kcX3 2 rfl q2837 dX3_run_107 hM.1 rfl ?_
      refine x_iload_n (M := mX3_run) (pc := 110) dX3_run_110 rfl ?_
      refine xm_iald (M := mX3_run) (pc := 111) hM dX3_run_111 (by decide) (by first | decide | (simp only [mSz] <;> omega)) ?_
      refine xm_iast (M := mX3_run) (pc := 112) hM hF dX3_run_112 (by decide) (by first | decide | (simp only [mSz] <;> omega)) (fun h hM hF => ?_)
      refine x_aload_n (M := mX3_run) (pc := 113) dX3_run_113 rfl ?_
      refine x_get (M := mX3_run) (pc := 114) kcX3 2 rfl q2837 dX3_run_114 hM.1 rfl ?_
      refine x_iload_n (M := mX3_run) (pc := 117) dX3_run_117 rfl ?_
      refine x_iload_n (M := mX3_run) (pc := 118) dX3_run_118 rfl ?_
      refine xm_iast (M := mX3_run) (pc := 119) hM hF dX3_run_119 (by decide) (by first | decide | (simp only [mSz] <;> omega)) (fun h hM hF => ?_)
      first | refine x_iinc2N (M := mX3_run) (pc := 120) (c := 1) dX3_run_120 oI1 ?_ | refine x_iinc2 (M := mX3_run) (pc := 120) (c := 1) dX3_run_120 (by decide) ?_
      refine x_goto (M := mX3_run) (pc := 123) 87 dX3_run_123 (by decide) ?_
      refine ih (k + 1) (by omega) h _ (hM.toB fun j t => ?_) hF
      by_cases j2 : j = 2
      · subst j2
        simp only [va_up_s, upd, e0, va_up_n _ _ (show (2 : Nat) ≠ 0 by decide), p_cp]
        repeat' split
        all_goals first | rfl | (exfalso; omega) | (congr 1; omega)
      · rw [va_up_n _ _ j2, va_up_n _ _ j2]
        by_cases j0 : j = 0
        · subst j0
          simp only [va_up_s, upd, e0, va_up_n _ _ (show (2 : Nat) ≠ 0 by decide), va_up_n _ _ (show (0 : Nat) ≠ 2 by decide), p_cp]
          repeat' split
          all_goals first | rfl | (exfalso; omega) | (congr 1; omega)
        · rw [va_up_n _ _ j0, va_up_n _ _ j2, va_up_n _ _ j0, va_up_n _ _ j0]
/-- what `run` leaves -/
def RUN (I : Nat → Int32) (B : Nat → Nat → Int32) (u : Nat) (res : Nat ⊕ (Nat × Row)) : Option Value → (Nat → Int32) → (Nat → Nat → Int32) → Int64 → Prop := fun v I' B' _ => B' 5 = B 5 ∧ I' 6 = 0 ∧ match res with
  | .inl e => e ≤ 120 ∧ v = some (.int (-1000 - nI e)) ∧ (∀ k, k < 464 → B' 0 k = B 0 k) ∧ I' 3 = I 3 ∧ B' 1 = B 1 ∧ I' 4 = I 4
  | .inr y => v = some (.int (nI y.1)) ∧ WS y.2 ∧ (∀ k, k < 464 → B' 0 k = y.2 k) ∧ I' 3 = nI (p_recN u + 1) ∧ B' 1 = p_recB u (B 1) (B 0) ∧ I' 4 = 0
theorem p_recB_ext {u : Nat} {b s s' : Row} (e : ∀ k, k < 464 → s k = s' k) : p_recB u b s = p_recB u b s' := by
  funext t
  unfold p_recB p_push
  split
  · exact e _ (by omega)
  · rfl
theorem m_run (d u len : Nat) (tx : Nat → Nat) (hu : u ≤ 5) (hd : 8 ≤ d) (hU : I 3 = nI u) (hr : I 6 = 0) (hT : TX I B len tx) (hW : WS (B 0)) : MC g l mX3_run d [] m A I B wd (RUN I B u (t_all tx len (len + 1) (B 0) 0 0)) := by
  intro h hM
  have hF : MF m A h h := MF.rf
  refine Ct.of [some (.ref m), none, none, none] (by decide +kernel) rfl (Nat.le_of_ble_eq_true rfl) rfl rfl ?_
  refine x_iconst (M := mX3_run) (pc := 0) (v := nI 0) dX3_run_0 (by decide) ?_
  refine x_istore1 (M := mX3_run) (pc := 1) dX3_run_1 ?_
  refine m_run_l1 d _ h _ _ (fun h hM hF => ?_) 464 0 rfl h (hM.up0 2 fun t => ?_) hF
  rotate_left
  · unfold p_cp; rw [if_neg (by omega)]
  have b0 : va_up B 2 (p_cp (B 2) (B 0) 464) 0 = B 0 := va_up_n _ _ (by decide)
  refine x_aload_n (M := mX3_run) (pc := 27) dX3_run_27 rfl ?_
  refine x_iconst (M := mX3_run) (pc := 28) (v := nI 1) dX3_run_28 (by decide) ?_
  refine xm_put6 (M := mX3_run) (pc := 29) hM hF q2841 dX3_run_29 (by first | with_reducible exact xz0 | with_reducible exact xz1 | with_reducible exact bI_01 _ | with_reducible assumption | assumption) (fun h hM hF => ?_)
  refine x_aload_n (M := mX3_run) (pc := 32) dX3_run_32 rfl ?_
  refine x_V0 (M := mX3_run) (pc := 33) (M' := mX3_runAll) q3102 kVX3_runAll dX3_run_33 (m_runAll (d - 1) u len tx hu (by omega) ((upd_n _ _ (by decide)).trans hU) (upd_s _ _ _) ⟨(upd_n _ _ (by decide)).trans hT.1, hT.2.1, fun k hk => by rw [va_up_n _ _ (by decide)]; exact hT.2.2.1 k hk, hT.2.2.2⟩ (by rw [b0]; exact hW) h hM) (hM.is) (fun v_ h hq_ => ?_)
  obtain ⟨v_, I_, B_, wd_, hv_, hQ, hM_, hF_⟩ := hq_
  cases hv_
  replace hF := hF.tr hF_
  replace hM := hM_
  clear hM_ hF_
  obtain ⟨hA, n, rfl, hx⟩ := hQ
  rw [b0] at hx
  have hb2 : ∀ k, k < 464 → B_ 2 k = B 0 k := fun k hk => by rw [hA.2.2.2.2.1, va_up_s]; unfold p_cp; rw [if_pos hk]
  have hb5 : B_ 5 = B 5 := hA.2.2.2.2.2.trans (va_up_n _ _ (by decide))
  have hb1 : B_ 1 = B 1 := hA.2.2.2.1.trans (va_up_n _ _ (by decide))
  have hi3 : I_ 3 = I 3 := hA.1.trans (upd_n _ _ (by decide))
  have hi4 : I_ 4 = I 4 := hA.2.1.trans (upd_n _ _ (by decide))
  cases hres : t_all tx len (len + 1) (B 0) 0 0 with
  | inl e =>
    rw [hres] at hx
    have he := hx.1
    refine x_istore1 (M := mX3_run) (pc := 36) dX3_run_36 ?_
    refine x_aload_n (M := mX3_run) (pc := 37) dX3_run_37 rfl ?_
    refine x_iconst (M := mX3_run) (pc := 38) (v := nI 0) dX3_run_38 (by decide) ?_
    refine xm_put6 (M := mX3_run) (pc := 39) hM hF q2841 dX3_run_39 (by first | with_reducible exact xz0 | with_reducible exact xz1 | with_reducible exact bI_01 _ | with_reducible assumption | assumption) (fun h hM hF => ?_)
    refine x_aload_n (M := mX3_run) (pc := 42) dX3_run_42 rfl ?_
    refine x_get (M := mX3_run) (pc := 43) kcX3 26 rfl q2861 dX3_run_43 hM.1 rfl ?_
    refine x_val (M := mX3_run) (pc := 46) ((upd_n _ _ (by decide)).trans hx.2) ?_
    first | refine x_if_lt (M := mX3_run) (pc := 46) 85 dX3_run_46 (by decide) (fun c46 => ?_) (fun c46 => ?_)
    · exact absurd c46 (nI_nl (by omega))
    refine x_iconst (M := mX3_run) (pc := 49) (v := nI 0) dX3_run_49 (by decide) ?_
    refine x_istore2 (M := mX3_run) (pc := 50) dX3_run_50 ?_
    refine m_run_l2 (B := B_) d _ _ _ _ (fun h hM hF => ?_) 464 0 rfl h (hM.up0 0 fun t => ?_) hF
    · refine x_sipush (M := mX3_run) (pc := 76) (v := (-1000)) dX3_run_76 (by decide) ?_
      refine x_aload_n (M := mX3_run) (pc := 79) dX3_run_79 rfl ?_
      refine x_get (M := mX3_run) (pc := 80) kcX3 26 rfl q2861 dX3_run_80 hM.1 rfl ?_
      refine x_val (M := mX3_run) (pc := 83) ((upd_n _ _ (by decide)).trans hx.2) ?_
      first | with_reducible refine x_isubN (M := mX3_run) (pc := 83) dX3_run_83 (by fail) ?_ | refine x_isub (M := mX3_run) (pc := 83) dX3_run_83 ?_
      refine x_iret (M := mX3_run) (pc := 84) dX3_run_84 rfl (Nat.le_refl 0) (Nat.le_refl 0) ⟨_, _, _, _, rfl, ?_, hM, hF⟩
      refine ⟨(va_up_n _ _ (by decide)).trans hb5, upd_s _ _ _, he, rfl, fun k hk => ?_, (upd_n _ _ (by decide)).trans hi3, (va_up_n _ _ (by decide)).trans hb1, (upd_n _ _ (by decide)).trans hi4⟩
      rw [va_up_s]; unfold p_cp; rw [if_pos hk]; exact hb2 k hk
    · unfold p_cp; rw [if_neg (by omega)]
  | inr y =>
    rw [hres] at hx
    obtain ⟨hxn, hx26, hx0, hxw⟩ := hx
    subst hxn
    refine x_istore1 (M := mX3_run) (pc := 36) dX3_run_36 ?_
    refine x_aload_n (M := mX3_run) (pc := 37) dX3_run_37 rfl ?_
    refine x_iconst (M := mX3_run) (pc := 38) (v := nI 0) dX3_run_38 (by decide) ?_
    refine xm_put6 (M := mX3_run) (pc := 39) hM hF q2841 dX3_run_39 (by first | with_reducible exact xz0 | with_reducible exact xz1 | with_reducible exact bI_01 _ | with_reducible assumption | assumption) (fun h hM hF => ?_)
    refine x_aload_n (M := mX3_run) (pc := 42) dX3_run_42 rfl ?_
    refine x_get (M := mX3_run) (pc := 43) kcX3 26 rfl q2861 dX3_run_43 hM.1 rfl ?_
    refine x_val (M := mX3_run) (pc := 46) ((upd_n _ _ (by decide)).trans hx26) ?_
    refine x_if_lt (M := mX3_run) (pc := 46) 85 dX3_run_46 (by decide) (fun r_46 => ?_) (fun r_46 => ?_)
    rotate_left
    · exact absurd (by decide) r_46
    rename Nat → Nat → Int32 => B1
    rename Nat → Int32 => I1
    refine x_iconst (M := mX3_run) (pc := 85) (v := nI 0) dX3_run_85 (by decide) ?_
    refine x_istore2 (M := mX3_run) (pc := 86) dX3_run_86 ?_
    refine m_run_l3 (B := B1) d _ _ _ (B1 0) (B1 2) (fun h a3 hM hF => ?_) 464 0 rfl h _ (hM.toB fun j t => ?_) hF
    rotate_left
    · by_cases j2 : j = 2
      · subst j2; rw [va_up_s]; unfold p_cp; rw [if_neg (by omega)]
      · rw [va_up_n _ _ j2]
        by_cases j0 : j = 0
        · subst j0; rw [va_up_s]; unfold p_cp; rw [if_neg (by omega)]
        · rw [va_up_n _ _ j0]
    refine x_aload_n (M := mX3_run) (pc := 126) dX3_run_126 rfl ?_
    refine x_V0 (M := mX3_run) (pc := 127) (M' := mX3_record) q2940 kVX3_record dX3_run_127 (m_record (d - 1) u hu ((upd_n _ _ (by decide)).trans (hi3.trans hU)) h hM) (hM.is) (fun v_ h hq_ => ?_)
    obtain ⟨v_, I_, B_, wd_, hv_, hQ, hM_, hF_⟩ := hq_
    cases hv_
    replace hF := hF.tr hF_
    replace hM := hM_
    clear hM_ hF_
    obtain ⟨hv, hI, hB, hw⟩ := hQ
    subst hv
    refine x_iconst (M := mX3_run) (pc := 130) (v := nI 0) dX3_run_130 (by decide) ?_
    refine x_istore2 (M := mX3_run) (pc := 131) dX3_run_131 ?_
    refine m_run_l4 (B := B_) d _ _ _ _ (fun h hM hF => ?_) 464 0 rfl h (hM.up0 0 fun t => ?_) hF
    · refine x_aload_n (M := mX3_run) (pc := 157) dX3_run_157 rfl ?_
      refine x_iconst (M := mX3_run) (pc := 158) (v := nI 0) dX3_run_158 (by decide) ?_
      refine xm_put4 (M := mX3_run) (pc := 159) hM hF q2839 dX3_run_159 (fun h hM hF => ?_)
      refine x_iload_n (M := mX3_run) (pc := 162) dX3_run_162 rfl ?_
      refine x_iret (M := mX3_run) (pc := 163) dX3_run_163 rfl (Nat.le_refl 0) (Nat.le_refl 0) ⟨_, _, _, _, rfl, ?_, hM, hF⟩
      refine ⟨?_, ?_, rfl, hxw, fun k hk => ?_, ?_, ?_, upd_s _ _ _⟩
      · rw [va_up_n _ _ (by decide), hB, va_up_n _ _ (by decide), va_up_n _ _ (by decide), va_up_n _ _ (by decide)]; exact hb5
      · rw [upd_n _ _ (by decide), hI, upd_n _ _ (by decide)]; exact upd_s _ _ _
      · rw [va_up_s]; unfold p_cp; rw [if_pos hk, hB, va_up_n _ _ (by decide), va_up_s]; unfold p_cp; rw [if_pos hk, hx0]
      · rw [upd_n _ _ (by decide), hI]; exact upd_s _ _ _
      · rw [va_up_n _ _ (by decide), hB, va_up_s, va_up_n _ _ (by decide), va_up_n _ _ (by decide), hb1]
        refine p_recB_ext fun k hk => ?_
        rw [va_up_n _ _ (by decide), va_up_s]; unfold p_cp; rw [if_pos hk]; exact hb2 k hk
    · unfold p_cp; rw [if_neg (by omega)]
end MODELW

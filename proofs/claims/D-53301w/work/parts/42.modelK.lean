section PUREK
set_option maxRecDepth 100000
theorem p_ln_fl {s : Row} {O : Nat → Nat} {om : Nat} (hnn : zN s 37 ≤ 12) : ∀ k, k ≤ zN s 37 → ∀ t v, (p_ln s O om k).2.2 t = some v → v + zN s (40 + 4 * t) ≤ om * zN s 11
  | 0, _ => fun t v h => by cases h
  | k + 1, hk => fun t v h => by
    have ih := p_ln_fl (O := O) (om := om) hnn k (by omega) t v
    have i3 := (p_ln_inv s O om hnn k (by omega)).2.2
    replace h : (p_lnS s O om (p_ln s O om k)).2.2 t = some v := h
    unfold p_lnS at h
    split at h
    · exact ih h
    · next b e =>
      replace h : (if t = b then p_at s O om (p_ln s O om k).2.1 b else (p_ln s O om k).2.2 t) = some v := h
      by_cases e2 : t = b
      · rw [if_pos e2] at h; rw [e2]; exact p_at_le i3 h
      · rw [if_neg e2] at h; exact ih h
theorem zFL_le {s : Row} (hnn : zN s 37 ≤ 12) {t v : Nat} (h : zFL s t = some v) : v + zN s (40 + 4 * t) ≤ zOm s * zN s 11 := p_ln_fl hnn _ (Nat.le_refl _) t v h
def q_noteL (s : Row) (n w : Nat) : Option Nat → Int32
  | none => -9
  | some v => if w = 4 then nI (zO s (v / zN s 11)) else if w = 5 then nI (v % zN s 11) else nI (zO s ((v + zN s (40 + 4 * n) - 1) / zN s 11))
def q_note (s : Row) (n w : Int32) : Int32 := if (bIn n 0 (s 37 - 1) && bIn w 0 6) = false then -1 else if w.toNatClampNeg < 4 then s (38 + 4 * n.toNatClampNeg + w.toNatClampNeg) else if zBook s = false then -9 else q_noteL s n.toNatClampNeg w.toNatClampNeg (zFL s n.toNatClampNeg)
end PUREK
section MODELK
set_option maxRecDepth 100000
variable {g : xG} {l : Launch} {m : Nat} {A : Nat → Nat} {I : Nat → Int32} {B : Nat → Nat → Int32} {wd : Int64}
theorem QF.nt {I1 I' : Nat → Int32} {B1 B' : Nat → Nat → Int32} {wd1 wd' : Int64} {v0 : Int32} {v : Option Value} (hv : v = some (.int v0)) (h : LF I B wd I1 B1 wd1) (hi : ∀ j, j ≠ 28 → I' j = I1 j) (hb : ∀ j, j ≠ 29 → j ≠ 30 → B' j = B1 j) : QF I B v0 v I' B' wd' := by
  have z := QF.lf (v := v) (v0 := v0) hv h
  exact ⟨z.1, (hi 3 (by decide)).trans z.2.1, (hi 4 (by decide)).trans z.2.2.1, (hi 6 (by decide)).trans z.2.2.2.1, (hb 0 (by decide) (by decide)).trans z.2.2.2.2.1, (hb 1 (by decide) (by decide)).trans z.2.2.2.2.2.1, (hb 5 (by decide) (by decide)).trans z.2.2.2.2.2.2⟩
theorem m_note (d : Nat) (hd : 5 ≤ d) (hW : WF (B 0)) (x y : Int32) : MC g l mX3_note d [.int x, .int y] m A I B wd (QF I B (q_note (B 0) x y)) := by
  intro h hM
  have hF : MF m A h h := MF.rf
  obtain ⟨h37, h37b⟩ := hW.2.2.2.2.2.2.2.2.1
  obtain ⟨h11, h11a, h11b⟩ := hW.2.2.2.2.2.1
  refine Ct.of [some (.ref m), some (.int x), some (.int y), none, none] (by decide +kernel) rfl (Nat.le_of_ble_eq_true rfl) rfl rfl ?_
  refine x_iload_n (M := mX3_note) (pc := 0) dX3_note_0 rfl ?_
  refine x_i2l (M := mX3_note) (pc := 1) dX3_note_1 ?_
  refine x_lconst (M := mX3_note) (pc := 2) (v := 0) dX3_note_2 (by decide) ?_
  refine x_aload_n (M := mX3_note) (pc := 3) dX3_note_3 rfl ?_
  refine x_get (M := mX3_note) (pc := 4) kcX3 0 rfl q2835 dX3_note_4 hM.1 rfl ?_
  refine x_bipush (M := mX3_note) (pc := 7) (v := nI 37) dX3_note_7 (by decide) ?_
  refine xm_iald (M := mX3_note) (pc := 9) hM dX3_note_9 (by decide) (by first | decide | (simp only [mSz] <;> omega)) ?_
  refine x_iconst (M := mX3_note) (pc := 10) (v := nI 1) dX3_note_10 (by decide) ?_
  first | with_reducible refine x_isubN (M := mX3_note) (pc := 11) dX3_note_11 (by fail) ?_ | refine x_isub (M := mX3_note) (pc := 11) dX3_note_11 ?_
  refine x_i2l (M := mX3_note) (pc := 12) dX3_note_12 ?_
  refine x_S3 (M := mX3_note) (pc := 13) (M' := mX3_in) q2949 kSX3_in dX3_note_13 (m_inB h x 0 (B 0 37 - 1) 0 _ (by decide) rfl (d - 1)) (fun v_ h hq_ => ?_)
  obtain ⟨hv_, rfl⟩ := hq_; cases hv_
  first | with_reducible refine x_ifB_eq (M := mX3_note) (pc := 16) 31 dX3_note_16 (by decide) (fun c16 => ?_) (fun c16 => ?_) | with_reducible refine x_if_eqN (M := mX3_note) (pc := 16) 31 dX3_note_16 (by decide) (by omega) (fun c16 => ?_) (fun c16 => ?_) | refine x_if_eq (M := mX3_note) (pc := 16) 31 dX3_note_16 (by decide) (fun c16 => ?_) (fun c16 => ?_)
  · refine x_iconst (M := mX3_note) (pc := 31) (v := (-1)) dX3_note_31 (by decide) ?_
    refine x_iret (M := mX3_note) (pc := 32) dX3_note_32 rfl (Nat.le_refl 0) (Nat.le_refl 0) ⟨_, _, _, _, rfl, ?_, hM, hF⟩
    exact QF.lf (by rw [q_note, if_pos (by first | (rw [c16]; rfl) | (rw [c28, Bool.and_false]))]) LF.rf
  refine x_iload_n (M := mX3_note) (pc := 19) dX3_note_19 rfl ?_
  refine x_i2l (M := mX3_note) (pc := 20) dX3_note_20 ?_
  refine x_lconst (M := mX3_note) (pc := 21) (v := 0) dX3_note_21 (by decide) ?_
  refine x_ldc2 (M := mX3_note) (pc := 22) dX3_note_22 q3274 ?_
  refine x_S3 (M := mX3_note) (pc := 25) (M' := mX3_in) q2949 kSX3_in dX3_note_25 (m_inB h y 0 6 0 6 (by decide) (by decide) (d - 1)) (fun v_ h hq_ => ?_)
  obtain ⟨hv_, rfl⟩ := hq_; cases hv_
  first | with_reducible refine x_ifB_ne (M := mX3_note) (pc := 28) 33 dX3_note_28 (by decide) (fun c28 => ?_) (fun c28 => ?_) | with_reducible refine x_if_neN (M := mX3_note) (pc := 28) 33 dX3_note_28 (by decide) (by omega) (fun c28 => ?_) (fun c28 => ?_) | refine x_if_ne (M := mX3_note) (pc := 28) 33 dX3_note_28 (by decide) (fun c28 => ?_) (fun c28 => ?_)
  rotate_left
  · refine x_iconst (M := mX3_note) (pc := 31) (v := (-1)) dX3_note_31 (by decide) ?_
    refine x_iret (M := mX3_note) (pc := 32) dX3_note_32 rfl (Nat.le_refl 0) (Nat.le_refl 0) ⟨_, _, _, _, rfl, ?_, hM, hF⟩
    exact QF.lf (by rw [q_note, if_pos (by first | (rw [c16]; rfl) | (rw [c28, Bool.and_false]))]) LF.rf
  skip
  obtain ⟨w, rfl, -, hw⟩ := bIn_n (a := 0) (b := 6) (by omega) (by omega) c28
  have hx : ∃ n, x = nI n ∧ n < zN (B 0) 37 := by
    rcases Nat.eq_zero_or_pos (zN (B 0) 37) with z | z
    · exfalso
      rw [h37, z] at c16
      have := of_decide_eq_true c16
      rw [Int32.le_iff_toInt_le, Int32.le_iff_toInt_le] at this
      have e1 : (0 : Int32).toInt = 0 := by decide
      have e2 : (nI 0 - 1).toInt = -1 := by decide
      omega
    · rw [h37] at c16; exact bIn_m1 (by omega) z c16
  obtain ⟨n, rfl, hn⟩ := hx
  have hq : q_note (B 0) (nI n) (nI w) = if w < 4 then B 0 (38 + 4 * n + w) else if zBook (B 0) = false then -9 else q_noteL (B 0) n w (zFL (B 0) n) := by
    unfold q_note
    rw [if_neg (by simp [c16, c28]), nI_clamp (by omega), nI_clamp (by omega)]
  obtain ⟨-, -, ⟨e2, e2a, e2b⟩, -⟩ := hW.2.2.2.2.2.2.2.2.2.1 n hn
  refine x_bipush (M := mX3_note) (pc := 33) (v := nI 38) dX3_note_33 (by decide) ?_
  refine x_iconst (M := mX3_note) (pc := 35) (v := nI 4) dX3_note_35 (by decide) ?_
  refine x_iload_n (M := mX3_note) (pc := 36) dX3_note_36 rfl ?_
  first | with_reducible refine x_imulN (M := mX3_note) (pc := 37) dX3_note_37 ?_ | refine x_imul (M := mX3_note) (pc := 37) dX3_note_37 ?_
  first | with_reducible refine x_iaddN (M := mX3_note) (pc := 38) dX3_note_38 ?_ | refine x_iadd (M := mX3_note) (pc := 38) dX3_note_38 ?_
  refine x_istore3 (M := mX3_note) (pc := 39) dX3_note_39 ?_
  refine x_iload_n (M := mX3_note) (pc := 40) dX3_note_40 rfl ?_
  refine x_iconst (M := mX3_note) (pc := 41) (v := nI 4) dX3_note_41 (by decide) ?_
  first | with_reducible refine x_icmp_geN (M := mX3_note) (pc := 42) 54 dX3_note_42 (by decide) (by omega) (by omega) (fun c42 => ?_) (fun c42 => ?_) | refine x_icmp_ge (M := mX3_note) (pc := 42) 54 dX3_note_42 (by decide) (fun c42 => ?_) (fun c42 => ?_)
  rotate_left
  · refine x_aload_n (M := mX3_note) (pc := 45) dX3_note_45 rfl ?_
    refine x_get (M := mX3_note) (pc := 46) kcX3 0 rfl q2835 dX3_note_46 hM.1 rfl ?_
    refine x_iload_n (M := mX3_note) (pc := 49) dX3_note_49 rfl ?_
    refine x_iload_n (M := mX3_note) (pc := 50) dX3_note_50 rfl ?_
    first | with_reducible refine x_iaddN (M := mX3_note) (pc := 51) dX3_note_51 ?_ | refine x_iadd (M := mX3_note) (pc := 51) dX3_note_51 ?_
    refine xm_iald (M := mX3_note) (pc := 52) hM dX3_note_52 (by decide) (by first | decide | (simp only [mSz] <;> omega)) ?_
    refine x_iret (M := mX3_note) (pc := 53) dX3_note_53 rfl (Nat.le_refl 0) (Nat.le_refl 0) ⟨_, _, _, _, rfl, ?_, hM, hF⟩
    exact QF.lf (by rw [hq, if_pos (by omega)]) LF.rf
  refine x_aload_n (M := mX3_note) (pc := 54) dX3_note_54 rfl ?_
  refine x_V0 (M := mX3_note) (pc := 55) (M' := mX3_isBooklet) q3023 kVX3_isBooklet dX3_note_55 (m_isBooklet (d - 1) _ _ _ _ (by omega) hW.1 h hM) (hM.is) (fun v_ h hq_ => ?_)
  obtain ⟨v_, I_, B_, wd_, hv_, hQ, hM_, hF_⟩ := hq_
  cases hv_
  replace hF := hF.tr hF_
  replace hM := hM_
  clear hM_ hF_
  obtain ⟨rfl, hL, hY⟩ := hQ
  first | with_reducible refine x_ifB_ne (M := mX3_note) (pc := 58) 64 dX3_note_58 (by decide) (fun c58 => ?_) (fun c58 => ?_) | with_reducible refine x_if_neN (M := mX3_note) (pc := 58) 64 dX3_note_58 (by decide) (by omega) (fun c58 => ?_) (fun c58 => ?_) | refine x_if_ne (M := mX3_note) (pc := 58) 64 dX3_note_58 (by decide) (fun c58 => ?_) (fun c58 => ?_)
  rotate_left
  · refine x_bipush (M := mX3_note) (pc := 61) (v := (-9)) dX3_note_61 (by decide) ?_
    refine x_iret (M := mX3_note) (pc := 63) dX3_note_63 rfl (Nat.le_refl 0) (Nat.le_refl 0) ⟨_, _, _, _, rfl, ?_, hM, hF⟩
    exact QF.lf (by rw [hq, if_neg (by omega), if_pos (show zBook (B 0) = false from c58)]) hL
  skip
  have hB := BW_now rfl hW c58 hL hY
  have b2 := hB.1.2.2.2.2.1
  have hq2 : q_note (B 0) (nI n) (nI w) = q_noteL (B 0) n w (zFL (B 0) n) := by rw [hq, if_neg (by omega), if_neg (by rw [show zBook (B 0) = true from c58]; decide)]
  refine x_aload_n (M := mX3_note) (pc := 64) dX3_note_64 rfl ?_
  refine x_V0 (M := mX3_note) (pc := 65) (M' := mX3_layNotes) q3225 kVX3_layNotes dX3_note_65 (m_layNotes (d - 1) (by omega) (B 0) hB hW h hM) (hM.is) (fun v_ h hq_ => ?_)
  obtain ⟨v_, I_, B_, wd_, hv_, hQ, hM_, hF_⟩ := hq_
  cases hv_
  replace hF := hF.tr hF_
  replace hM := hM_
  clear hM_ hF_
  obtain ⟨rfl, -, hi, hb, hN, hfl⟩ := hQ
  have hB0 := hN.2.2.2.2
  have hom := hN.2.2.2.1
  have hall : zOm (B 0) * zN (B 0) 11 ≤ 32 * 9 := Nat.mul_le_mul hN.2.2.2.1 h11b
  have v11 : B_ 0 11 = nI (zN (B 0) 11) := by rw [hB0]; exact h11
  have v2 : B_ 0 (38 + 4 * n + 2) = nI (zN (B 0) (40 + 4 * n)) := by rw [hB0, show 38 + 4 * n + 2 = 40 + 4 * n by omega]; exact e2
  cases hr : zFL (B 0) n with
  | none =>
    have hv : B_ 30 n = -1 := (hfl n hn).trans (by rw [hr]; rfl)
    refine x_aload_n (M := mX3_note) (pc := 68) dX3_note_68 rfl ?_
    refine x_get (M := mX3_note) (pc := 69) kcX3 30 rfl q2865 dX3_note_69 hM.1 rfl ?_
    refine x_iload_n (M := mX3_note) (pc := 72) dX3_note_72 rfl ?_
    refine xm_ialdV (M := mX3_note) (pc := 73) hM dX3_note_73 (hv) (by decide) (by first | decide | (simp only [mSz] <;> omega)) ?_
    refine x_istore4 (M := mX3_note) (pc := 74) dX3_note_74 ?_
    refine x_iload (M := mX3_note) (pc := 76) dX3_note_76 rfl ?_
    first | refine x_if_ge (M := mX3_note) (pc := 78) 84 dX3_note_78 (by decide) (fun c78 => ?_) (fun c78 => ?_)
    · exact absurd c78 (by decide)
    · refine x_bipush (M := mX3_note) (pc := 81) (v := (-9)) dX3_note_81 (by decide) ?_
      refine x_iret (M := mX3_note) (pc := 83) dX3_note_83 rfl (Nat.le_refl 0) (Nat.le_refl 0) ⟨_, _, _, _, rfl, ?_, hM, hF⟩
      exact QF.nt (by rw [hq2, hr]; rfl) hL hi hb
  | some v =>
    have hv : B_ 30 n = nI v := (hfl n hn).trans (by rw [hr]; rfl)
    have hle := zFL_le h37b hr
    have d1 : v / zN (B 0) 11 < zOm (B 0) := (Nat.div_lt_iff_lt_mul (by omega)).mpr (by omega)
    have d2 : (v + zN (B 0) (40 + 4 * n) - 1) / zN (B 0) 11 < zOm (B 0) := (Nat.div_lt_iff_lt_mul (by omega)).mpr (by omega)
    refine x_aload_n (M := mX3_note) (pc := 68) dX3_note_68 rfl ?_
    refine x_get (M := mX3_note) (pc := 69) kcX3 30 rfl q2865 dX3_note_69 hM.1 rfl ?_
    refine x_iload_n (M := mX3_note) (pc := 72) dX3_note_72 rfl ?_
    refine xm_ialdV (M := mX3_note) (pc := 73) hM dX3_note_73 (hv) (by decide) (by first | decide | (simp only [mSz] <;> omega)) ?_
    refine x_istore4 (M := mX3_note) (pc := 74) dX3_note_74 ?_
    refine x_iload (M := mX3_note) (pc := 76) dX3_note_76 rfl ?_
    first | refine x_if_ge (M := mX3_note) (pc := 78) 84 dX3_note_78 (by decide) (fun c78 => ?_) (fun c78 => ?_)
    · refine x_iload_n (M := mX3_note) (pc := 84) dX3_note_84 rfl ?_
      refine x_iconst (M := mX3_note) (pc := 85) (v := nI 4) dX3_note_85 (by decide) ?_
      first | with_reducible refine x_icmp_neN (M := mX3_note) (pc := 86) 107 dX3_note_86 (by decide) (by omega) (by omega) (fun c86 => ?_) (fun c86 => ?_) | refine x_icmp_ne (M := mX3_note) (pc := 86) 107 dX3_note_86 (by decide) (fun c86 => ?_) (fun c86 => ?_)
      · refine x_iload_n (M := mX3_note) (pc := 107) dX3_note_107 rfl ?_
        refine x_iconst (M := mX3_note) (pc := 108) (v := nI 5) dX3_note_108 (by decide) ?_
        first | with_reducible refine x_icmp_neN (M := mX3_note) (pc := 109) 125 dX3_note_109 (by decide) (by omega) (by omega) (fun c109 => ?_) (fun c109 => ?_) | refine x_icmp_ne (M := mX3_note) (pc := 109) 125 dX3_note_109 (by decide) (fun c109 => ?_) (fun c109 => ?_)
        · refine x_aload_n (M := mX3_note) (pc := 125) dX3_note_125 rfl ?_
          refine x_get (M := mX3_note) (pc := 126) kcX3 29 rfl q2864 dX3_note_126 hM.1 rfl ?_
          refine x_iload (M := mX3_note) (pc := 129) dX3_note_129 rfl ?_
          refine x_aload_n (M := mX3_note) (pc := 131) dX3_note_131 rfl ?_
          refine x_get (M := mX3_note) (pc := 132) kcX3 0 rfl q2835 dX3_note_132 hM.1 rfl ?_
          refine x_iload_n (M := mX3_note) (pc := 135) dX3_note_135 rfl ?_
          refine x_iconst (M := mX3_note) (pc := 136) (v := nI 2) dX3_note_136 (by decide) ?_
          first | with_reducible refine x_iaddN (M := mX3_note) (pc := 137) dX3_note_137 ?_ | refine x_iadd (M := mX3_note) (pc := 137) dX3_note_137 ?_
          refine xm_ialdV (M := mX3_note) (pc := 138) hM dX3_note_138 (v2) (by decide) (by first | decide | (simp only [mSz] <;> omega)) ?_
          first | with_reducible refine x_iaddN (M := mX3_note) (pc := 139) dX3_note_139 ?_ | refine x_iadd (M := mX3_note) (pc := 139) dX3_note_139 ?_
          refine x_iconst (M := mX3_note) (pc := 140) (v := nI 1) dX3_note_140 (by decide) ?_
          first | with_reducible refine x_isubN (M := mX3_note) (pc := 141) dX3_note_141 (by omega) ?_ | refine x_isub (M := mX3_note) (pc := 141) dX3_note_141 ?_
          refine x_aload_n (M := mX3_note) (pc := 142) dX3_note_142 rfl ?_
          refine x_get (M := mX3_note) (pc := 143) kcX3 0 rfl q2835 dX3_note_143 hM.1 rfl ?_
          refine x_bipush (M := mX3_note) (pc := 146) (v := nI 11) dX3_note_146 (by decide) ?_
          refine xm_ialdV (M := mX3_note) (pc := 148) hM dX3_note_148 (v11) (by decide) (by first | decide | (simp only [mSz] <;> omega)) ?_
          first | with_reducible refine x_idivN (M := mX3_note) (pc := 149) dX3_note_149 (by omega) (by omega) (by omega) ?_ | refine x_idiv (M := mX3_note) (pc := 149) dX3_note_149 (by first | decide | assumption) ?_
          refine xm_ialdV (M := mX3_note) (pc := 150) hM dX3_note_150 (hN.2.1 _ d2) (by decide) (by first | decide | (simp only [mSz] <;> omega)) ?_
          refine x_iret (M := mX3_note) (pc := 151) dX3_note_151 rfl (Nat.le_refl 0) (Nat.le_refl 0) ⟨_, _, _, _, rfl, ?_, hM, hF⟩
          refine QF.nt ?_ hL hi hb; rw [hq2, hr, q_noteL]; first | rw [if_pos (show w = 4 by omega)] | rw [if_neg (show ¬ w = 4 by omega), if_pos (show w = 5 by omega)] | rw [if_neg (show ¬ w = 4 by omega), if_neg (show ¬ w = 5 by omega)]
        · refine x_iload (M := mX3_note) (pc := 112) dX3_note_112 rfl ?_
          refine x_aload_n (M := mX3_note) (pc := 114) dX3_note_114 rfl ?_
          refine x_get (M := mX3_note) (pc := 115) kcX3 0 rfl q2835 dX3_note_115 hM.1 rfl ?_
          refine x_bipush (M := mX3_note) (pc := 118) (v := nI 11) dX3_note_118 (by decide) ?_
          refine xm_ialdV (M := mX3_note) (pc := 120) hM dX3_note_120 (v11) (by decide) (by first | decide | (simp only [mSz] <;> omega)) ?_
          first | with_reducible refine x_iremN (M := mX3_note) (pc := 121) dX3_note_121 (by omega) (by omega) (by omega) ?_ | refine x_irem (M := mX3_note) (pc := 121) dX3_note_121 (by first | decide | assumption) ?_
          refine x_goto (M := mX3_note) (pc := 122) 151 dX3_note_122 (by decide) ?_
          refine x_iret (M := mX3_note) (pc := 151) dX3_note_151 rfl (Nat.le_refl 0) (Nat.le_refl 0) ⟨_, _, _, _, rfl, ?_, hM, hF⟩
          refine QF.nt ?_ hL hi hb; rw [hq2, hr, q_noteL]; first | rw [if_pos (show w = 4 by omega)] | rw [if_neg (show ¬ w = 4 by omega), if_pos (show w = 5 by omega)] | rw [if_neg (show ¬ w = 4 by omega), if_neg (show ¬ w = 5 by omega)]
      · refine x_aload_n (M := mX3_note) (pc := 89) dX3_note_89 rfl ?_
        refine x_get (M := mX3_note) (pc := 90) kcX3 29 rfl q2864 dX3_note_90 hM.1 rfl ?_
        refine x_iload (M := mX3_note) (pc := 93) dX3_note_93 rfl ?_
        refine x_aload_n (M := mX3_note) (pc := 95) dX3_note_95 rfl ?_
        refine x_get (M := mX3_note) (pc := 96) kcX3 0 rfl q2835 dX3_note_96 hM.1 rfl ?_
        refine x_bipush (M := mX3_note) (pc := 99) (v := nI 11) dX3_note_99 (by decide) ?_
        refine xm_ialdV (M := mX3_note) (pc := 101) hM dX3_note_101 (v11) (by decide) (by first | decide | (simp only [mSz] <;> omega)) ?_
        first | with_reducible refine x_idivN (M := mX3_note) (pc := 102) dX3_note_102 (by omega) (by omega) (by omega) ?_ | refine x_idiv (M := mX3_note) (pc := 102) dX3_note_102 (by first | decide | assumption) ?_
        refine xm_ialdV (M := mX3_note) (pc := 103) hM dX3_note_103 (hN.2.1 _ d1) (by decide) (by first | decide | (simp only [mSz] <;> omega)) ?_
        refine x_goto (M := mX3_note) (pc := 104) 151 dX3_note_104 (by decide) ?_
        refine x_iret (M := mX3_note) (pc := 151) dX3_note_151 rfl (Nat.le_refl 0) (Nat.le_refl 0) ⟨_, _, _, _, rfl, ?_, hM, hF⟩
        refine QF.nt ?_ hL hi hb; rw [hq2, hr, q_noteL]; first | rw [if_pos (show w = 4 by omega)] | rw [if_neg (show ¬ w = 4 by omega), if_pos (show w = 5 by omega)] | rw [if_neg (show ¬ w = 4 by omega), if_neg (show ¬ w = 5 by omega)]
    · exact absurd (Int32.not_lt.mp (nI_pos (by omega))) c78
/-- the lowest page on which one of the first k notes of a subject begins -/
def p_pby (s : Row) (sub : Nat) : Nat → Option Nat
  | 0 => none
  | k + 1 => if zN s (38 + 4 * k) = sub then (match zFL s k, p_pby s sub k with
    | none, p => p
    | some v, none => some (zO s (v / zN s 11))
    | some v, some p => if zO s (v / zN s 11) < p then some (zO s (v / zN s 11)) else some p) else p_pby s sub k
theorem p_pby_lt {s : Row} (h : zN16 s ≤ 16) {sub : Nat} : ∀ k p, p_pby s sub k = some p → p < 32
  | 0 => fun p h => by cases h
  | k + 1 => fun p hp => by
    have ih := p_pby_lt h (sub := sub) k
    unfold p_pby at hp
    split at hp
    · split at hp
      · exact ih p hp
      · cases hp; exact zO_lt h _
      · next e => split at hp
                  · cases hp; exact zO_lt h _
                  · cases hp; exact ih _ e
    · exact ih p hp
theorem m_pageBy_l (d : Nat) (s : Row) (h16 : zN16 s ≤ 16) (hW : WF s) (hN : NT I B s (zO s) (zOm s)) (hfl : ∀ t, t < zN s 37 → B 30 t = eI (zFL s t)) (sub : Nat) (hsub : sub < 100) (h : xH) (hM : MR g h m A I B wd) (Q : xO → xH → Prop) (hE : Q (.inl (some (.int (eI (p_pby s sub (zN s 37)))))) h) :
    ∀ q k, k + q = zN s 37 → ∀ a4, X g l mX3_pageBy d 0 0 Q 4 [some (.ref m), some (.int (nI sub)), some (.int (eI (p_pby s sub k))), some (.int (nI k)), a4] [] h 0 0 := by
  obtain ⟨h37, h37b⟩ := hW.2.2.2.2.2.2.2.2.1
  obtain ⟨h11, h11a, h11b⟩ := hW.2.2.2.2.2.1
  have hB0 := hN.2.2.2.2
  have hom := hN.2.2.2.1
  have hall : zOm s * zN s 11 ≤ 32 * 9 := Nat.mul_le_mul hN.2.2.2.1 h11b
  have v37 : B 0 37 = nI (zN s 37) := by rw [hB0]; exact h37
  have v11 : B 0 11 = nI (zN s 11) := by rw [hB0]; exact h11
  intro q
  induction q with
  | zero =>
    intro k hk a4
    have : k = zN s 37 := by omega
    subst this
    refine x_iload_n (M := mX3_pageBy) (pc := 4) dX3_pageBy_4 rfl ?_
    refine x_aload_n (M := mX3_pageBy) (pc := 5) dX3_pageBy_5 rfl ?_
    refine x_get (M := mX3_pageBy) (pc := 6) kcX3 0 rfl q2835 dX3_pageBy_6 hM.1 rfl ?_
    refine x_bipush (M := mX3_pageBy) (pc := 9) (v := nI 37) dX3_pageBy_9 (by decide) ?_
    refine xm_ialdV (M := mX3_pageBy) (pc := 11) hM dX3_pageBy_11 (v37) (by decide) (by first | decide | (simp only [mSz] <;> omega)) ?_
    first | with_reducible refine x_icmp_geN (M := mX3_pageBy) (pc := 12) 83 dX3_pageBy_12 (by decide) (by omega) (by omega) (fun c1 => ?_) (fun c1 => ?_) | refine x_icmp_ge (M := mX3_pageBy) (pc := 12) 83 dX3_pageBy_12 (by decide) (fun c1 => ?_) (fun c1 => ?_)
    · refine x_iload_n (M := mX3_pageBy) (pc := 83) dX3_pageBy_83 rfl ?_
      exact x_iret (pc := 84) dX3_pageBy_84 rfl (Nat.le_refl 0) (Nat.le_refl 0) hE
    · omega
  | succ q ih =>
    intro k hk a4
    obtain ⟨⟨e0, e0b⟩, -⟩ := hW.2.2.2.2.2.2.2.2.2.1 k (by omega)
    have v0 : B 0 (38 + 4 * k) = nI (zN s (38 + 4 * k)) := by rw [hB0]; exact e0
    refine x_iload_n (M := mX3_pageBy) (pc := 4) dX3_pageBy_4 rfl ?_
    refine x_aload_n (M := mX3_pageBy) (pc := 5) dX3_pageBy_5 rfl ?_
    refine x_get (M := mX3_pageBy) (pc := 6) kcX3 0 rfl q2835 dX3_pageBy_6 hM.1 rfl ?_
    refine x_bipush (M := mX3_pageBy) (pc := 9) (v := nI 37) dX3_pageBy_9 (by decide) ?_
    refine xm_ialdV (M := mX3_pageBy) (pc := 11) hM dX3_pageBy_11 (v37) (by decide) (by first | decide | (simp only [mSz] <;> omega)) ?_
    first | with_reducible refine x_icmp_geN (M := mX3_pageBy) (pc := 12) 83 dX3_pageBy_12 (by decide) (by omega) (by omega) (fun c1 => ?_) (fun c1 => ?_) | refine x_icmp_ge (M := mX3_pageBy) (pc := 12) 83 dX3_pageBy_12 (by decide) (fun c1 => ?_) (fun c1 => ?_)
    · omega
    have hst : p_pby s sub (k + 1) = if zN s (38 + 4 * k) = sub then (match zFL s k, p_pby s sub k with
      | none, p => p
      | some v, none => some (zO s (v / zN s 11))
      | some v, some p => if zO s (v / zN s 11) < p then some (zO s (v / zN s 11)) else some p) else p_pby s sub k := rfl
    cases hr : zFL s k with
    | none =>
      have hv : B 30 k = -1 := (hfl k (by omega)).trans (by rw [hr]; rfl)
      refine x_aload_n (M := mX3_pageBy) (pc := 15) dX3_pageBy_15 rfl ?_
      refine x_get (M := mX3_pageBy) (pc := 16) kcX3 0 rfl q2835 dX3_pageBy_16 hM.1 rfl ?_
      refine x_bipush (M := mX3_pageBy) (pc := 19) (v := nI 38) dX3_pageBy_19 (by decide) ?_
      refine x_iconst (M := mX3_pageBy) (pc := 21) (v := nI 4) dX3_pageBy_21 (by decide) ?_
      refine x_iload_n (M := mX3_pageBy) (pc := 22) dX3_pageBy_22 rfl ?_
      first | with_reducible refine x_imulN (M := mX3_pageBy) (pc := 23) dX3_pageBy_23 ?_ | refine x_imul (M := mX3_pageBy) (pc := 23) dX3_pageBy_23 ?_
      first | with_reducible refine x_iaddN (M := mX3_pageBy) (pc := 24) dX3_pageBy_24 ?_ | refine x_iadd (M := mX3_pageBy) (pc := 24) dX3_pageBy_24 ?_
      refine xm_ialdV (M := mX3_pageBy) (pc := 25) hM dX3_pageBy_25 (v0) (by decide) (by first | decide | (simp only [mSz] <;> omega)) ?_
      refine x_iload_n (M := mX3_pageBy) (pc := 26) dX3_pageBy_26 rfl ?_
      first | with_reducible refine x_icmp_neN (M := mX3_pageBy) (pc := 27) 77 dX3_pageBy_27 (by decide) (by omega) (by omega) (fun c27 => ?_) (fun c27 => ?_) | refine x_icmp_ne (M := mX3_pageBy) (pc := 27) 77 dX3_pageBy_27 (by decide) (fun c27 => ?_) (fun c27 => ?_)
      · first | refine x_iinc3N (M := mX3_pageBy) (pc := 77) (c := 1) dX3_pageBy_77 oI1 ?_ | refine x_iinc3 (M := mX3_pageBy) (pc := 77) (c := 1) dX3_pageBy_77 (by decide) ?_
        refine x_goto (M := mX3_pageBy) (pc := 80) 4 dX3_pageBy_80 (by decide) ?_
        have := ih (k + 1) (by omega) a4; rw [hst, hr] at this; first | (rw [if_pos c27] at this; exact this) | (rw [if_neg c27] at this; exact this)
      · refine x_aload_n (M := mX3_pageBy) (pc := 30) dX3_pageBy_30 rfl ?_
        refine x_get (M := mX3_pageBy) (pc := 31) kcX3 30 rfl q2865 dX3_pageBy_31 hM.1 rfl ?_
        refine x_iload_n (M := mX3_pageBy) (pc := 34) dX3_pageBy_34 rfl ?_
        refine xm_ialdV (M := mX3_pageBy) (pc := 35) hM dX3_pageBy_35 (hv) (by decide) (by first | decide | (simp only [mSz] <;> omega)) ?_
        first | refine x_if_lt (M := mX3_pageBy) (pc := 36) 77 dX3_pageBy_36 (by decide) (fun c36 => ?_) (fun c36 => ?_)
        · first | refine x_iinc3N (M := mX3_pageBy) (pc := 77) (c := 1) dX3_pageBy_77 oI1 ?_ | refine x_iinc3 (M := mX3_pageBy) (pc := 77) (c := 1) dX3_pageBy_77 (by decide) ?_
          refine x_goto (M := mX3_pageBy) (pc := 80) 4 dX3_pageBy_80 (by decide) ?_
          have := ih (k + 1) (by omega) a4; rw [hst, hr] at this; first | (rw [if_pos c27] at this; exact this) | (rw [if_neg c27] at this; exact this)
        · exact absurd (by decide) c36
    | some v =>
      have hv : B 30 k = nI v := (hfl k (by omega)).trans (by rw [hr]; rfl)
      have hle := zFL_le h37b hr
      have hO := hN.2.2.1 (v / zN s 11)
      have hln := (hW.2.2.2.2.2.2.2.2.2.1 k (by omega)).2.2.1.2.1
      have d1 : v / zN s 11 < zOm s := (Nat.div_lt_iff_lt_mul (by omega)).mpr (by omega)
      cases hp : p_pby s sub k with
      | none =>
        refine x_aload_n (M := mX3_pageBy) (pc := 15) dX3_pageBy_15 rfl ?_
        refine x_get (M := mX3_pageBy) (pc := 16) kcX3 0 rfl q2835 dX3_pageBy_16 hM.1 rfl ?_
        refine x_bipush (M := mX3_pageBy) (pc := 19) (v := nI 38) dX3_pageBy_19 (by decide) ?_
        refine x_iconst (M := mX3_pageBy) (pc := 21) (v := nI 4) dX3_pageBy_21 (by decide) ?_
        refine x_iload_n (M := mX3_pageBy) (pc := 22) dX3_pageBy_22 rfl ?_
        first | with_reducible refine x_imulN (M := mX3_pageBy) (pc := 23) dX3_pageBy_23 ?_ | refine x_imul (M := mX3_pageBy) (pc := 23) dX3_pageBy_23 ?_
        first | with_reducible refine x_iaddN (M := mX3_pageBy) (pc := 24) dX3_pageBy_24 ?_ | refine x_iadd (M := mX3_pageBy) (pc := 24) dX3_pageBy_24 ?_
        refine xm_ialdV (M := mX3_pageBy) (pc := 25) hM dX3_pageBy_25 (v0) (by decide) (by first | decide | (simp only [mSz] <;> omega)) ?_
        refine x_iload_n (M := mX3_pageBy) (pc := 26) dX3_pageBy_26 rfl ?_
        first | with_reducible refine x_icmp_neN (M := mX3_pageBy) (pc := 27) 77 dX3_pageBy_27 (by decide) (by omega) (by omega) (fun c27 => ?_) (fun c27 => ?_) | refine x_icmp_ne (M := mX3_pageBy) (pc := 27) 77 dX3_pageBy_27 (by decide) (fun c27 => ?_) (fun c27 => ?_)
        · first | refine x_iinc3N (M := mX3_pageBy) (pc := 77) (c := 1) dX3_pageBy_77 oI1 ?_ | refine x_iinc3 (M := mX3_pageBy) (pc := 77) (c := 1) dX3_pageBy_77 (by decide) ?_
          refine x_goto (M := mX3_pageBy) (pc := 80) 4 dX3_pageBy_80 (by decide) ?_
          have := ih (k + 1) (by omega); rw [hst, hr, hp] at this; first | (rw [if_pos c27] at this; exact this _) | (rw [if_neg c27] at this; exact this _)
        · refine x_aload_n (M := mX3_pageBy) (pc := 30) dX3_pageBy_30 rfl ?_
          refine x_get (M := mX3_pageBy) (pc := 31) kcX3 30 rfl q2865 dX3_pageBy_31 hM.1 rfl ?_
          refine x_iload_n (M := mX3_pageBy) (pc := 34) dX3_pageBy_34 rfl ?_
          refine xm_ialdV (M := mX3_pageBy) (pc := 35) hM dX3_pageBy_35 (hv) (by decide) (by first | decide | (simp only [mSz] <;> omega)) ?_
          first | refine x_if_lt (M := mX3_pageBy) (pc := 36) 77 dX3_pageBy_36 (by decide) (fun c36 => ?_) (fun c36 => ?_)
          · exact absurd c36 (nI_pos (by omega))
          · refine x_aload_n (M := mX3_pageBy) (pc := 39) dX3_pageBy_39 rfl ?_
            refine x_get (M := mX3_pageBy) (pc := 40) kcX3 29 rfl q2864 dX3_pageBy_40 hM.1 rfl ?_
            refine x_aload_n (M := mX3_pageBy) (pc := 43) dX3_pageBy_43 rfl ?_
            refine x_get (M := mX3_pageBy) (pc := 44) kcX3 30 rfl q2865 dX3_pageBy_44 hM.1 rfl ?_
            refine x_iload_n (M := mX3_pageBy) (pc := 47) dX3_pageBy_47 rfl ?_
            refine xm_ialdV (M := mX3_pageBy) (pc := 48) hM dX3_pageBy_48 (hv) (by decide) (by first | decide | (simp only [mSz] <;> omega)) ?_
            refine x_aload_n (M := mX3_pageBy) (pc := 49) dX3_pageBy_49 rfl ?_
            refine x_get (M := mX3_pageBy) (pc := 50) kcX3 0 rfl q2835 dX3_pageBy_50 hM.1 rfl ?_
            refine x_bipush (M := mX3_pageBy) (pc := 53) (v := nI 11) dX3_pageBy_53 (by decide) ?_
            refine xm_ialdV (M := mX3_pageBy) (pc := 55) hM dX3_pageBy_55 (v11) (by decide) (by first | decide | (simp only [mSz] <;> omega)) ?_
            first | with_reducible refine x_idivN (M := mX3_pageBy) (pc := 56) dX3_pageBy_56 (by omega) (by omega) (by omega) ?_ | refine x_idiv (M := mX3_pageBy) (pc := 56) dX3_pageBy_56 (by first | decide | assumption) ?_
            refine xm_ialdV (M := mX3_pageBy) (pc := 57) hM dX3_pageBy_57 (hN.2.1 _ d1) (by decide) (by first | decide | (simp only [mSz] <;> omega)) ?_
            refine x_istore4 (M := mX3_pageBy) (pc := 58) dX3_pageBy_58 ?_
            refine x_iload_n (M := mX3_pageBy) (pc := 60) dX3_pageBy_60 rfl ?_
            refine x_val (M := mX3_pageBy) (pc := 61) ((show eI none = -1 from rfl)) ?_
            first | refine x_if_lt (M := mX3_pageBy) (pc := 61) 70 dX3_pageBy_61 (by decide) (fun c61 => ?_) (fun c61 => ?_)
            · refine x_iload (M := mX3_pageBy) (pc := 70) dX3_pageBy_70 rfl ?_
              refine x_goto (M := mX3_pageBy) (pc := 72) 76 dX3_pageBy_72 (by decide) ?_
              refine x_istore2 (M := mX3_pageBy) (pc := 76) dX3_pageBy_76 ?_
              first | refine x_iinc3N (M := mX3_pageBy) (pc := 77) (c := 1) dX3_pageBy_77 oI1 ?_ | refine x_iinc3 (M := mX3_pageBy) (pc := 77) (c := 1) dX3_pageBy_77 (by decide) ?_
              refine x_goto (M := mX3_pageBy) (pc := 80) 4 dX3_pageBy_80 (by decide) ?_
              have := ih (k + 1) (by omega); rw [hst, hr, hp] at this; first | (rw [if_pos c27] at this; exact this _) | (rw [if_neg c27] at this; exact this _)
            · exact absurd (by decide) c61
      | some p =>
        have hp32 := p_pby_lt h16 _ _ hp
        refine x_aload_n (M := mX3_pageBy) (pc := 15) dX3_pageBy_15 rfl ?_
        refine x_get (M := mX3_pageBy) (pc := 16) kcX3 0 rfl q2835 dX3_pageBy_16 hM.1 rfl ?_
        refine x_bipush (M := mX3_pageBy) (pc := 19) (v := nI 38) dX3_pageBy_19 (by decide) ?_
        refine x_iconst (M := mX3_pageBy) (pc := 21) (v := nI 4) dX3_pageBy_21 (by decide) ?_
        refine x_iload_n (M := mX3_pageBy) (pc := 22) dX3_pageBy_22 rfl ?_
        first | with_reducible refine x_imulN (M := mX3_pageBy) (pc := 23) dX3_pageBy_23 ?_ | refine x_imul (M := mX3_pageBy) (pc := 23) dX3_pageBy_23 ?_
        first | with_reducible refine x_iaddN (M := mX3_pageBy) (pc := 24) dX3_pageBy_24 ?_ | refine x_iadd (M := mX3_pageBy) (pc := 24) dX3_pageBy_24 ?_
        refine xm_ialdV (M := mX3_pageBy) (pc := 25) hM dX3_pageBy_25 (v0) (by decide) (by first | decide | (simp only [mSz] <;> omega)) ?_
        refine x_iload_n (M := mX3_pageBy) (pc := 26) dX3_pageBy_26 rfl ?_
        first | with_reducible refine x_icmp_neN (M := mX3_pageBy) (pc := 27) 77 dX3_pageBy_27 (by decide) (by omega) (by omega) (fun c27 => ?_) (fun c27 => ?_) | refine x_icmp_ne (M := mX3_pageBy) (pc := 27) 77 dX3_pageBy_27 (by decide) (fun c27 => ?_) (fun c27 => ?_)
        · first | refine x_iinc3N (M := mX3_pageBy) (pc := 77) (c := 1) dX3_pageBy_77 oI1 ?_ | refine x_iinc3 (M := mX3_pageBy) (pc := 77) (c := 1) dX3_pageBy_77 (by decide) ?_
          refine x_goto (M := mX3_pageBy) (pc := 80) 4 dX3_pageBy_80 (by decide) ?_
          have := ih (k + 1) (by omega); rw [hst, hr, hp] at this; first | (rw [if_neg c27] at this; exact this _) | (rw [if_pos c27] at this; simp only at this; rw [if_pos (by omega)] at this; exact this _) | (rw [if_pos c27] at this; simp only at this; rw [if_neg (by omega)] at this; exact this _)
        · refine x_aload_n (M := mX3_pageBy) (pc := 30) dX3_pageBy_30 rfl ?_
          refine x_get (M := mX3_pageBy) (pc := 31) kcX3 30 rfl q2865 dX3_pageBy_31 hM.1 rfl ?_
          refine x_iload_n (M := mX3_pageBy) (pc := 34) dX3_pageBy_34 rfl ?_
          refine xm_ialdV (M := mX3_pageBy) (pc := 35) hM dX3_pageBy_35 (hv) (by decide) (by first | decide | (simp only [mSz] <;> omega)) ?_
          first | refine x_if_lt (M := mX3_pageBy) (pc := 36) 77 dX3_pageBy_36 (by decide) (fun c36 => ?_) (fun c36 => ?_)
          · exact absurd c36 (nI_pos (by omega))
          · refine x_aload_n (M := mX3_pageBy) (pc := 39) dX3_pageBy_39 rfl ?_
            refine x_get (M := mX3_pageBy) (pc := 40) kcX3 29 rfl q2864 dX3_pageBy_40 hM.1 rfl ?_
            refine x_aload_n (M := mX3_pageBy) (pc := 43) dX3_pageBy_43 rfl ?_
            refine x_get (M := mX3_pageBy) (pc := 44) kcX3 30 rfl q2865 dX3_pageBy_44 hM.1 rfl ?_
            refine x_iload_n (M := mX3_pageBy) (pc := 47) dX3_pageBy_47 rfl ?_
            refine xm_ialdV (M := mX3_pageBy) (pc := 48) hM dX3_pageBy_48 (hv) (by decide) (by first | decide | (simp only [mSz] <;> omega)) ?_
            refine x_aload_n (M := mX3_pageBy) (pc := 49) dX3_pageBy_49 rfl ?_
            refine x_get (M := mX3_pageBy) (pc := 50) kcX3 0 rfl q2835 dX3_pageBy_50 hM.1 rfl ?_
            refine x_bipush (M := mX3_pageBy) (pc := 53) (v := nI 11) dX3_pageBy_53 (by decide) ?_
            refine xm_ialdV (M := mX3_pageBy) (pc := 55) hM dX3_pageBy_55 (v11) (by decide) (by first | decide | (simp only [mSz] <;> omega)) ?_
            first | with_reducible refine x_idivN (M := mX3_pageBy) (pc := 56) dX3_pageBy_56 (by omega) (by omega) (by omega) ?_ | refine x_idiv (M := mX3_pageBy) (pc := 56) dX3_pageBy_56 (by first | decide | assumption) ?_
            refine xm_ialdV (M := mX3_pageBy) (pc := 57) hM dX3_pageBy_57 (hN.2.1 _ d1) (by decide) (by first | decide | (simp only [mSz] <;> omega)) ?_
            refine x_istore4 (M := mX3_pageBy) (pc := 58) dX3_pageBy_58 ?_
            refine x_iload_n (M := mX3_pageBy) (pc := 60) dX3_pageBy_60 rfl ?_
            refine x_val (M := mX3_pageBy) (pc := 61) ((show eI (some p) = nI p from rfl)) ?_
            first | refine x_if_lt (M := mX3_pageBy) (pc := 61) 70 dX3_pageBy_61 (by decide) (fun c61 => ?_) (fun c61 => ?_)
            · exact absurd c61 (nI_pos (by omega))
            · refine x_iload (M := mX3_pageBy) (pc := 64) dX3_pageBy_64 rfl ?_
              refine x_iload_n (M := mX3_pageBy) (pc := 66) dX3_pageBy_66 rfl ?_
              refine x_val (M := mX3_pageBy) (pc := 67) ((show eI (some p) = nI p from rfl)) ?_
              first | with_reducible refine x_icmp_geN (M := mX3_pageBy) (pc := 67) 75 dX3_pageBy_67 (by decide) (by omega) (by omega) (fun c67 => ?_) (fun c67 => ?_) | refine x_icmp_ge (M := mX3_pageBy) (pc := 67) 75 dX3_pageBy_67 (by decide) (fun c67 => ?_) (fun c67 => ?_)
              · refine x_iload_n (M := mX3_pageBy) (pc := 75) dX3_pageBy_75 rfl ?_
                refine x_istore2 (M := mX3_pageBy) (pc := 76) dX3_pageBy_76 ?_
                first | refine x_iinc3N (M := mX3_pageBy) (pc := 77) (c := 1) dX3_pageBy_77 oI1 ?_ | refine x_iinc3 (M := mX3_pageBy) (pc := 77) (c := 1) dX3_pageBy_77 (by decide) ?_
                refine x_goto (M := mX3_pageBy) (pc := 80) 4 dX3_pageBy_80 (by decide) ?_
                have := ih (k + 1) (by omega); rw [hst, hr, hp] at this; first | (rw [if_neg c27] at this; exact this _) | (rw [if_pos c27] at this; simp only at this; rw [if_pos (by omega)] at this; exact this _) | (rw [if_pos c27] at this; simp only at this; rw [if_neg (by omega)] at this; exact this _)
              · refine x_iload (M := mX3_pageBy) (pc := 70) dX3_pageBy_70 rfl ?_
                refine x_goto (M := mX3_pageBy) (pc := 72) 76 dX3_pageBy_72 (by decide) ?_
                refine x_istore2 (M := mX3_pageBy) (pc := 76) dX3_pageBy_76 ?_
                first | refine x_iinc3N (M := mX3_pageBy) (pc := 77) (c := 1) dX3_pageBy_77 oI1 ?_ | refine x_iinc3 (M := mX3_pageBy) (pc := 77) (c := 1) dX3_pageBy_77 (by decide) ?_
                refine x_goto (M := mX3_pageBy) (pc := 80) 4 dX3_pageBy_80 (by decide) ?_
                have := ih (k + 1) (by omega); rw [hst, hr, hp] at this; first | (rw [if_neg c27] at this; exact this _) | (rw [if_pos c27] at this; simp only at this; rw [if_pos (by omega)] at this; exact this _) | (rw [if_pos c27] at this; simp only at this; rw [if_neg (by omega)] at this; exact this _)
theorem m_pageBy (d : Nat) (s : Row) (h16 : zN16 s ≤ 16) (hW : WF s) (hN : NT I B s (zO s) (zOm s)) (hfl : ∀ t, t < zN s 37 → B 30 t = eI (zFL s t)) (sub : Nat) (hsub : sub < 100) : MCr g l mX3_pageBy d [.int (nI sub)] m A I B wd (some (.int (eI (p_pby s sub (zN s 37))))) := by
  intro h hM
  refine Ct.of [some (.ref m), some (.int (nI sub)), none, none, none] (by decide +kernel) rfl (Nat.le_of_ble_eq_true rfl) rfl rfl ?_
  refine x_iconst (M := mX3_pageBy) (pc := 0) (v := (-1)) dX3_pageBy_0 (by decide) ?_
  refine x_istore2 (M := mX3_pageBy) (pc := 1) dX3_pageBy_1 ?_
  refine x_iconst (M := mX3_pageBy) (pc := 2) (v := nI 0) dX3_pageBy_2 (by decide) ?_
  refine x_istore3 (M := mX3_pageBy) (pc := 3) dX3_pageBy_3 ?_
  exact m_pageBy_l d s h16 hW hN hfl sub hsub h hM _ ⟨rfl, rfl⟩ _ 0 (Nat.zero_add _) _
end MODELK

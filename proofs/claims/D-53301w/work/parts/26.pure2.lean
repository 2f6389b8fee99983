section PURE2
set_option maxRecDepth 100000
/-- the open sheet, folded by the first n of the folds fo: places high, places wide, layers a place, the layers -/
def p_layn (hi wi : Nat) (fo : Nat → Nat) : Nat → Nat × Nat × Nat × (Nat → Lay)
  | 0 => (hi, wi, 1, fun t => (t, false, false))
  | n + 1 => (p_hi (fo n) (p_layn hi wi fo n).1, p_wi (fo n) (p_layn hi wi fo n).2.1, 2 * (p_layn hi wi fo n).2.2.1, p_fold (fo n) (p_layn hi wi fo n).1 (p_layn hi wi fo n).2.1 (p_layn hi wi fo n).2.2.1 (p_layn hi wi fo n).2.2.2)
/-- whether the first n folds can be done, one behind the other -/
def p_cans (hi wi : Nat) (fo : Nat → Nat) : Nat → Bool
  | 0 => true
  | n + 1 => p_cans hi wi fo n && p_can (fo n) (p_layn hi wi fo n).1 (p_layn hi wi fo n).2.1
theorem p_layn_ok {hi wi : Nat} {fo : Nat → Nat} (h : p_ok hi wi 1 = true) : ∀ n, p_cans hi wi fo n = true → p_ok (p_layn hi wi fo n).1 (p_layn hi wi fo n).2.1 (p_layn hi wi fo n).2.2.1 = true ∧ (p_layn hi wi fo n).1 * (p_layn hi wi fo n).2.1 * (p_layn hi wi fo n).2.2.1 = hi * wi
  | 0, _ => ⟨h, by simp [p_layn]⟩
  | n + 1, hc => by
    simp only [p_cans, Bool.and_eq_true] at hc
    obtain ⟨h1, h2⟩ := p_layn_ok h n hc.1
    obtain ⟨y1, y2, -⟩ := p_okf h1 hc.2
    exact ⟨y1, y2.trans h2⟩
theorem p_layn_ma (hi wi : Nat) (fo : Nat → Nat) : ∀ n, (p_layn hi wi fo n).2.2.1 = 2 ^ n
  | 0 => rfl
  | n + 1 => by rw [Nat.pow_succ, ← p_layn_ma hi wi fo n, Nat.mul_comm]; rfl
theorem p_cans_le {hi wi : Nat} {fo : Nat → Nat} (h : p_ok hi wi 1 = true) {n : Nat} (hc : p_cans hi wi fo n = true) : n ≤ 4 := by
  obtain ⟨h1, -⟩ := p_layn_ok h n hc
  obtain ⟨-, -, h3, -⟩ := p_ok_b h1
  rw [p_layn_ma] at h3
  rcases Nat.lt_or_ge n 5 with q | q
  · omega
  · have : 2 ^ 5 ≤ 2 ^ n := Nat.pow_le_pow_right (by omega) q
    omega
theorem p_cans_mono {hi wi : Nat} {fo : Nat → Nat} : ∀ {n k : Nat}, k ≤ n → p_cans hi wi fo n = true → p_cans hi wi fo k = true
  | 0, k, hk, _ => by rw [show k = 0 by omega]; rfl
  | n + 1, k, hk, hc => by
    rcases Nat.lt_or_ge k (n + 1) with q | q
    · simp only [p_cans, Bool.and_eq_true] at hc
      exact p_cans_mono (Nat.le_of_lt_succ q) hc.1
    · rw [show k = n + 1 by omega]; exact hc
theorem p_cans_at {hi wi : Nat} {fo : Nat → Nat} {n k : Nat} (hk : k < n) (hc : p_cans hi wi fo n = true) : p_can (fo k) (p_layn hi wi fo k).1 (p_layn hi wi fo k).2.1 = true := by
  have := p_cans_mono (k := k + 1) (by omega) hc
  simp only [p_cans, Bool.and_eq_true] at this
  exact this.2
theorem p_layn_ext {hi wi : Nat} {fo fo' : Nat → Nat} : ∀ n, (∀ k, k < n → fo k = fo' k) → p_layn hi wi fo n = p_layn hi wi fo' n
  | 0, _ => rfl
  | n + 1, h => by rw [p_layn, p_layn, p_layn_ext n (fun k hk => h k (by omega)), h n (by omega)]
theorem p_cans_ext {hi wi : Nat} {fo fo' : Nat → Nat} : ∀ n, (∀ k, k < n → fo k = fo' k) → p_cans hi wi fo n = p_cans hi wi fo' n
  | 0, _ => rfl
  | n + 1, h => by rw [p_cans, p_cans, p_cans_ext n (fun k hk => h k (by omega)), p_layn_ext n (fun k hk => h k (by omega)), h n (by omega)]
/-- a sheet's row: size and folds -/
def FW (s : Nat → Int32) (hi wi nf : Nat) (fo : Nat → Nat) : Prop := s 0 = nI hi ∧ s 1 = nI wi ∧ s 2 = nI nf ∧ (∀ k, k < nf → s (3 + k) = nI (fo k)) ∧ p_ok hi wi 1 = true ∧ p_cans hi wi fo nf = true
/-- folds as a number: how many figures, and they -/
def p_len (n : Nat) : Nat := if n = 0 then 0 else if n > 999 then 4 else if n > 99 then 3 else if n > 9 then 2 else 1
def p_dig (n i : Nat) : Nat := n / 10 ^ (p_len n - 1 - i) % 10
/-- whether the folds of a number make a booklet -/
def p_isRow (hi wi n : Nat) : Bool := decide (n ≤ 9999) && p_cans hi wi (p_dig n) (p_len n) && decide (2 ^ p_len n = hi * wi)
theorem p_len_le (n : Nat) : p_len n ≤ 4 := by unfold p_len; repeat' split
                                               all_goals omega
end PURE2
section MODEL5
set_option maxRecDepth 100000
variable {g : xG} {l : Launch} {m : Nat} {A : Nat → Nat} {I : Nat → Int32} {B : Nat → Nat → Int32} {wd : Int64}
/-- the layers behind the first n folds fo -/
def LAYN (I : Nat → Int32) (B : Nat → Nat → Int32) (hi wi : Nat) (fo : Nat → Nat) (n : Nat) : Prop := LAY I B (p_layn hi wi fo n).1 (p_layn hi wi fo n).2.1 (p_layn hi wi fo n).2.2.1 (p_layn hi wi fo n).2.2.2
theorem m_layNow_l (d hi wi nf : Nat) (fo : Nat → Nat) (hd : 2 ≤ d) (I0 : Nat → Int32) (B0 : Nat → Nat → Int32) (wd0 : Int64) (hW : FW (B0 0) hi wi nf fo) (Q : xO → xH → Prop) (h0 : xH) (hE : ∀ h I B wd, MR g h m A I B wd → MF m A h0 h → LF I0 B0 wd0 I B wd → LAYN I B hi wi fo nf → Q (.inl none) h) : ∀ n k, k + n = nf → ∀ h I B wd, MR g h m A I B wd → MF m A h0 h → LF I0 B0 wd0 I B wd → LAYN I B hi wi fo k → X g l mX3_layNow d 0 0 Q 6 [some (.ref m), some (.int (nI k))] [] h 0 0 := by
  obtain ⟨w0, w1, w2, w3, w4, w5⟩ := hW
  have hn4 := p_cans_le w4 w5
  intro n
  induction n with
  | zero =>
    intro k hk h I B wd hM hF hL hY
    have : k = nf := by omega
    subst this
    have e2 : B 0 2 = nI k := by rw [hL.2.1 0 (by omega)]; exact w2
    refine x_iload_n (M := mX3_layNow) (pc := 6) dX3_layNow_6 rfl ?_
    refine x_aload_n (M := mX3_layNow) (pc := 7) dX3_layNow_7 rfl ?_
    refine x_get (M := mX3_layNow) (pc := 8) kcX3 0 rfl q2835 dX3_layNow_8 hM.1 rfl ?_
    refine x_iconst (M := mX3_layNow) (pc := 11) (v := nI 2) dX3_layNow_11 (by decide) ?_
    refine xm_ialdV (M := mX3_layNow) (pc := 12) hM dX3_layNow_12 (e2) (by decide) (by first | decide | (simp only [mSz] <;> omega)) ?_
    first | with_reducible refine x_icmp_geN (M := mX3_layNow) (pc := 13) 34 dX3_layNow_13 (by decide) (by omega) (by omega) (fun c1 => ?_) (fun c1 => ?_) | refine x_icmp_ge (M := mX3_layNow) (pc := 13) 34 dX3_layNow_13 (by decide) (fun c1 => ?_) (fun c1 => ?_)
    · exact x_vret (pc := 34) dX3_layNow_34 rfl (Nat.le_refl 0) (Nat.le_refl 0) (hE h I B wd hM hF hL hY)
    · omega
  | succ n ih =>
    intro k hk h I B wd hM hF hL hY
    have e2 : B 0 2 = nI nf := by rw [hL.2.1 0 (by omega)]; exact w2
    have e3 : B 0 (3 + k) = nI (fo k) := by rw [hL.2.1 0 (by omega)]; exact w3 k (by omega)
    refine x_iload_n (M := mX3_layNow) (pc := 6) dX3_layNow_6 rfl ?_
    refine x_aload_n (M := mX3_layNow) (pc := 7) dX3_layNow_7 rfl ?_
    refine x_get (M := mX3_layNow) (pc := 8) kcX3 0 rfl q2835 dX3_layNow_8 hM.1 rfl ?_
    refine x_iconst (M := mX3_layNow) (pc := 11) (v := nI 2) dX3_layNow_11 (by decide) ?_
    refine xm_ialdV (M := mX3_layNow) (pc := 12) hM dX3_layNow_12 (e2) (by decide) (by first | decide | (simp only [mSz] <;> omega)) ?_
    first | with_reducible refine x_icmp_geN (M := mX3_layNow) (pc := 13) 34 dX3_layNow_13 (by decide) (by omega) (by omega) (fun c1 => ?_) (fun c1 => ?_) | refine x_icmp_ge (M := mX3_layNow) (pc := 13) 34 dX3_layNow_13 (by decide) (fun c1 => ?_) (fun c1 => ?_)
    · omega
    · refine x_aload_n (M := mX3_layNow) (pc := 16) dX3_layNow_16 rfl ?_
      refine x_aload_n (M := mX3_layNow) (pc := 17) dX3_layNow_17 rfl ?_
      refine x_get (M := mX3_layNow) (pc := 18) kcX3 0 rfl q2835 dX3_layNow_18 hM.1 rfl ?_
      refine x_iconst (M := mX3_layNow) (pc := 21) (v := nI 3) dX3_layNow_21 (by decide) ?_
      refine x_iload_n (M := mX3_layNow) (pc := 22) dX3_layNow_22 rfl ?_
      first | with_reducible refine x_iaddN (M := mX3_layNow) (pc := 23) dX3_layNow_23 ?_ | refine x_iadd (M := mX3_layNow) (pc := 23) dX3_layNow_23 ?_
      refine xm_ialdV (M := mX3_layNow) (pc := 24) hM dX3_layNow_24 (e3) (by decide) (by first | decide | (simp only [mSz] <;> omega)) ?_
      refine x_V1 (M := mX3_layNow) (pc := 25) (M' := mX3_foldBy) q2960 kVX3_foldBy dX3_layNow_25 (m_foldBy (d - 1) (fo k) _ _ _ _ (p_layn_ok w4 k (p_cans_mono (by omega) w5)).1 (p_cans_at (by omega) w5) hY (by omega) h hM) (hM.is) (fun v_ h hq_ => ?_)
      obtain ⟨v_, I_, B_, wd_, hv_, hQ, hM_, hF_⟩ := hq_
      cases hv_
      replace hF := hF.tr hF_
      replace hM := hM_
      clear hM_ hF_
      obtain ⟨rfl, hL2, hY2⟩ := hQ
      first | refine x_iinc1N (M := mX3_layNow) (pc := 28) (c := 1) dX3_layNow_28 oI1 ?_ | refine x_iinc1 (M := mX3_layNow) (pc := 28) (c := 1) dX3_layNow_28 (by decide) ?_
      refine x_goto (M := mX3_layNow) (pc := 31) 6 dX3_layNow_31 (by decide) ?_
      exact ih (k + 1) (by omega) h _ _ _ hM hF (hL.tr hL2) hY2
theorem m_layNow (d hi wi nf : Nat) (fo : Nat → Nat) (hd : 2 ≤ d) (hW : FW (B 0) hi wi nf fo) : MC g l mX3_layNow d [] m A I B wd (fun v I' B' wd' => v = none ∧ LF I B wd I' B' wd' ∧ LAYN I' B' hi wi fo nf) := by
  intro h hM
  have hF : MF m A h h := MF.rf
  have hb := p_ok_b hW.2.2.2.2.1
  refine Ct.of [some (.ref m), none] (by decide +kernel) rfl (Nat.le_of_ble_eq_true rfl) rfl rfl ?_
  refine x_aload_n (M := mX3_layNow) (pc := 0) dX3_layNow_0 rfl ?_
  refine x_V0 (M := mX3_layNow) (pc := 1) (M' := mX3_layOpen) q2956 kVX3_layOpen dX3_layNow_1 (m_layOpen (d - 1) hi wi (by omega) hW.1 hW.2.1 h hM) (hM.is) (fun v_ h hq_ => ?_)
  obtain ⟨v_, I_, B_, wd_, hv_, hQ, hM_, hF_⟩ := hq_
  cases hv_
  replace hF := hF.tr hF_
  replace hM := hM_
  clear hM_ hF_
  obtain ⟨rfl, hL2, hY2⟩ := hQ
  refine x_iconst (M := mX3_layNow) (pc := 4) (v := nI 0) dX3_layNow_4 (by decide) ?_
  refine x_istore1 (M := mX3_layNow) (pc := 5) dX3_layNow_5 ?_
  exact m_layNow_l d hi wi nf fo hd I B wd hW _ _ (fun h I' B' wd' hM hF hL hY => ⟨_, _, _, _, rfl, ⟨rfl, hL, hY⟩, hM, hF⟩) nf 0 (Nat.zero_add _) h _ _ _ hM hF hL2 hY2
theorem m_isBooklet (d hi wi nf : Nat) (fo : Nat → Nat) (hd : 3 ≤ d) (hW : FW (B 0) hi wi nf fo) : MC g l mX3_isBooklet d [] m A I B wd (fun v I' B' wd' => v = some (.int (bI (decide (2 ^ nf = hi * wi)))) ∧ LF I B wd I' B' wd' ∧ LAYN I' B' hi wi fo nf) := by
  intro h hM
  have hF : MF m A h h := MF.rf
  have hb := p_ok_b hW.2.2.2.2.1
  have hm := p_layn_ma hi wi fo nf
  have h16 := (p_ok_b (p_layn_ok hW.2.2.2.2.1 nf hW.2.2.2.2.2).1).2.2.1
  refine Ct.of [some (.ref m)] (by decide +kernel) rfl (Nat.le_of_ble_eq_true rfl) rfl rfl ?_
  refine x_aload_n (M := mX3_isBooklet) (pc := 0) dX3_isBooklet_0 rfl ?_
  refine x_V0 (M := mX3_isBooklet) (pc := 1) (M' := mX3_layNow) q2952 kVX3_layNow dX3_isBooklet_1 (m_layNow (d - 1) hi wi nf fo (by omega) hW h hM) (hM.is) (fun v_ h hq_ => ?_)
  obtain ⟨v_, I_, B_, wd_, hv_, hQ, hM_, hF_⟩ := hq_
  cases hv_
  replace hF := hF.tr hF_
  replace hM := hM_
  clear hM_ hF_
  obtain ⟨rfl, hL2, hY2⟩ := hQ
  have e0 : B_ 0 0 * B_ 0 1 = nI (hi * wi) := by rw [hL2.2.1 0 (by omega), hW.1, hW.2.1, pk_mul]
  refine x_aload_n (M := mX3_isBooklet) (pc := 4) dX3_isBooklet_4 rfl ?_
  refine x_get (M := mX3_isBooklet) (pc := 5) kcX3 9 rfl q2844 dX3_isBooklet_5 hM.1 rfl ?_
  refine x_val (M := mX3_isBooklet) (pc := 8) (hY2.2.2.1.trans (congrArg nI hm)) ?_
  refine x_aload_n (M := mX3_isBooklet) (pc := 8) dX3_isBooklet_8 rfl ?_
  rw [hm] at h16
  refine x_V0 (M := mX3_isBooklet) (pc := 9) (M' := mX3_cells) q3006 kVX3_cells dX3_isBooklet_9 (m_cells (d - 1) h hM) (hM.is) (fun v_ h hq_ => ?_)
  obtain ⟨v_, I_, B_, wd_, hv_, hQ, hM_, hF_⟩ := hq_
  cases hv_
  replace hF := hF.tr hF_
  replace hM := hM_
  clear hM_ hF_
  obtain ⟨rfl, rfl, rfl, rfl⟩ := hQ
  refine x_val (M := mX3_isBooklet) (pc := 12) e0 ?_
  first | with_reducible refine x_icmp_neN (M := mX3_isBooklet) (pc := 12) 19 dX3_isBooklet_12 (by decide) (by omega) (by omega) (fun c12 => ?_) (fun c12 => ?_) | refine x_icmp_ne (M := mX3_isBooklet) (pc := 12) 19 dX3_isBooklet_12 (by decide) (fun c12 => ?_) (fun c12 => ?_)
  · refine x_iconst (M := mX3_isBooklet) (pc := 19) (v := nI 0) dX3_isBooklet_19 (by decide) ?_
    refine x_zret (M := mX3_isBooklet) (pc := 20) dX3_isBooklet_20 rfl (by first | with_reducible exact xz0 | with_reducible exact xz1 | with_reducible exact bI_01 _ | with_reducible assumption | assumption) (Nat.le_refl 0) (Nat.le_refl 0) ⟨_, _, _, _, rfl, ?_, hM, hF⟩
    exact ⟨by first | exact vB1 (by simp [*]) | exact vB0 (by simp [*]), hL2, hY2⟩
  · refine x_iconst (M := mX3_isBooklet) (pc := 15) (v := nI 1) dX3_isBooklet_15 (by decide) ?_
    refine x_goto (M := mX3_isBooklet) (pc := 16) 20 dX3_isBooklet_16 (by decide) ?_
    refine x_zret (M := mX3_isBooklet) (pc := 20) dX3_isBooklet_20 rfl (by first | with_reducible exact xz0 | with_reducible exact xz1 | with_reducible exact bI_01 _ | with_reducible assumption | assumption) (Nat.le_refl 0) (Nat.le_refl 0) ⟨_, _, _, _, rfl, ?_, hM, hF⟩
    exact ⟨by first | exact vB1 (by simp [*]) | exact vB0 (by simp [*]), hL2, hY2⟩
end MODEL5

/-! what a booklet tells -/
section BKREAD
set_option maxRecDepth 100000
variable {g : xG} {l : Launch} {h h0 h' : xH}
/-- a booklet with its sheet -/
def BS (g : xG) (h : xH) (bk sh : Nat) (s : Row) (ly : Nat → Lay) : Prop := ∃ P sx sy La xs J, BKL g h bk sh s ly La xs J ∧ SHP g h sh P s sx sy ∧ WF s ∧ (jP (zWi s) ly (zHi s * zWi s) (zHi s * zWi s)).Perm J ∧ (∀ t, t < zHi s * zWi s → (ly t).1 < zHi s * zWi s ∧ lfA ly (zHi s * zWi s) (ly t).1 = t) ∧ J.length ≤ 32
theorem BS.le {bk sh : Nat} {s : Row} {ly : Nat → Lay} (hl : xle h h') (hB : BS g h bk sh s ly) : BS g h' bk sh s ly := by
  obtain ⟨P, sx, sy, La, xs, J, h1, h2, h3⟩ := hB
  exact ⟨P, sx, sy, La, xs, J, h1.le hl, h2.le hl, h3⟩
theorem BS.is {bk sh : Nat} {s : Row} {ly : Nat → Lay} (hB : BS g h bk sh s ly) : xIs g h bk "CribBooklet$Booklet" := by
  obtain ⟨P, sx, sy, La, xs, J, ⟨lv, jl, ja, cap, sb, h1, -⟩, -⟩ := hB
  exact xIs.of kcX8 h1
theorem BS.wf {bk sh : Nat} {s : Row} {ly : Nat → Lay} (hB : BS g h bk sh s ly) : WF s := by
  obtain ⟨P, sx, sy, La, xs, J, h1, h2, h3, -⟩ := hB; exact h3
theorem BS.shIs {bk sh : Nat} {s : Row} {ly : Nat → Lay} (hB : BS g h bk sh s ly) : xIs g h sh "CribBooklet$Sheet" := by
  obtain ⟨P, sx, sy, La, xs, J, h1, h2, h3, -⟩ := hB; exact h2.is
theorem p_sd_lt {s : Row} {ly : Nat → Lay} {pg n : Nat} (hp : pg < 2 * n) (hl : ∀ t, t < n → (ly t).1 < n) : p_sd ly pg < 2 * n := by
  have := hl (pg / 2) (by omega)
  unfold p_sd
  have : (p_side (ly (pg / 2)) != decide (pg % 2 = 1)).toNat ≤ 1 := Bool.toNat_le _
  omega
theorem c_pages (h : xH) (bk sh d : Nat) (s : Row) (ly : Nat → Lay) (hB : BS g h bk sh s ly) : Ct g l mX8_pages d 0 0 [.ref bk] h (fun o h' => o = .inl (some (.int (nI (2 * (zHi s * zWi s))))) ∧ h' = h) := by
  obtain ⟨P, sx, sy, La, xs, J, ⟨lv, jl, ja, cap, sb, hbk, ⟨f, hlv, hf⟩, hly, hJO, hsb⟩, hS, hW, hp, hper, hJ32⟩ := hB
  refine Ct.of [some (.ref bk)] (by decide +kernel) rfl (Nat.le_of_ble_eq_true rfl) rfl rfl ?_
  refine x_iconst (M := mX8_pages) (pc := 0) (v := nI 2) dX8_pages_0 (by decide) ?_
  refine x_aload_n (M := mX8_pages) (pc := 1) dX8_pages_1 rfl ?_
  refine x_get (M := mX8_pages) (pc := 2) kcX8 1 rfl q1200 dX8_pages_2 (by first | assumption | exact xu_s _ _ _ | exact (xu_n (by first | assumption | exact Ne.symm (by assumption) | exact xu_fresh (by assumption) (by assumption) | exact (xu_fresh (by assumption) (by assumption)).symm)).trans (by first | assumption | exact xu_s _ _ _ | exact (xu_n (by first | assumption | exact Ne.symm (by assumption) | exact xu_fresh (by assumption) (by assumption) | exact (xu_fresh (by assumption) (by assumption)).symm)).trans (by first | assumption | exact xu_s _ _ _ | exact (xu_n (by first | assumption | exact Ne.symm (by assumption) | exact xu_fresh (by assumption) (by assumption) | exact (xu_fresh (by assumption) (by assumption)).symm)).trans (by first | assumption | exact xu_s _ _ _)))) rfl ?_
  refine x_alen (M := mX8_pages) (pc := 5) dX8_pages_5 (by first | assumption | exact xu_s _ _ _ | exact (xu_n (by first | assumption | exact Ne.symm (by assumption) | exact xu_fresh (by assumption) (by assumption) | exact (xu_fresh (by assumption) (by assumption)).symm)).trans (by first | assumption | exact xu_s _ _ _ | exact (xu_n (by first | assumption | exact Ne.symm (by assumption) | exact xu_fresh (by assumption) (by assumption) | exact (xu_fresh (by assumption) (by assumption)).symm)).trans (by first | assumption | exact xu_s _ _ _ | exact (xu_n (by first | assumption | exact Ne.symm (by assumption) | exact xu_fresh (by assumption) (by assumption) | exact (xu_fresh (by assumption) (by assumption)).symm)).trans (by first | assumption | exact xu_s _ _ _)))) rfl ?_
  first | with_reducible refine x_imulN (M := mX8_pages) (pc := 6) dX8_pages_6 ?_ | refine x_imul (M := mX8_pages) (pc := 6) dX8_pages_6 ?_
  refine x_iret (M := mX8_pages) (pc := 7) dX8_pages_7 rfl (by first | exact Nat.le_of_ble_eq_true rfl | omega) (by first | exact Nat.le_of_ble_eq_true rfl | omega) ?_
  exact ⟨rfl, rfl⟩
theorem c_openingOf (h : xH) (bk pg d : Nat) (hp : pg < 1000) : Ct g l mX8_openingOf d 0 0 [.ref bk, .int (nI pg)] h (fun o h' => o = .inl (some (.int (nI ((pg + 1) / 2)))) ∧ h' = h) := by
  refine Ct.of [some (.ref bk), some (.int (nI pg))] (by decide +kernel) rfl (Nat.le_of_ble_eq_true rfl) rfl rfl ?_
  refine x_iload_n (M := mX8_openingOf) (pc := 0) dX8_openingOf_0 rfl ?_
  refine x_iconst (M := mX8_openingOf) (pc := 1) (v := nI 1) dX8_openingOf_1 (by decide) ?_
  first | with_reducible refine x_iaddN (M := mX8_openingOf) (pc := 2) dX8_openingOf_2 ?_ | refine x_iadd (M := mX8_openingOf) (pc := 2) dX8_openingOf_2 ?_
  refine x_iconst (M := mX8_openingOf) (pc := 3) (v := nI 2) dX8_openingOf_3 (by decide) ?_
  first | with_reducible refine x_idivN (M := mX8_openingOf) (pc := 4) dX8_openingOf_4 (by omega) (by omega) (by omega) ?_ | refine x_idiv (M := mX8_openingOf) (pc := 4) dX8_openingOf_4 (by first | decide | assumption) ?_
  refine x_iret (M := mX8_openingOf) (pc := 5) dX8_openingOf_5 rfl (by first | exact Nat.le_of_ble_eq_true rfl | omega) (by first | exact Nat.le_of_ble_eq_true rfl | omega) ?_
  exact ⟨rfl, rfl⟩
theorem c_sideUpB (h : xH) (bk sh pg d : Nat) (hd : 1 ≤ d) (s : Row) (ly : Nat → Lay) (hB : BS g h bk sh s ly) (hpg : pg < 2 * (zHi s * zWi s)) : Ct g l mX8_sideUp d 0 0 [.ref bk, .int (nI pg)] h (fun o h' => o = .inl (some (.int (nI (p_side (ly (pg / 2)) != decide (pg % 2 = 1)).toNat))) ∧ h' = h) := by
  obtain ⟨P, sx, sy, La, xs, J, ⟨lv, jl, ja, cap, sb, hbk, ⟨f, hlv, hf⟩, hly, hJO, hsb⟩, hS, hW, hp, hper, hJ32⟩ := hB
  have hb := hW.b
  have hk : pg / 2 < zHi s * zWi s := by omega
  have hla := hly _ hk
  have hvk : va_rf (f (pg / 2)) = .ref (La (pg / 2)) := by rw [hf _ hk]; rfl
  have hto : (p_side (ly (pg / 2))).toNat ≤ 1 := Bool.toNat_le _
  refine Ct.of [some (.ref bk), some (.int (nI pg)), none] (by decide +kernel) rfl (Nat.le_of_ble_eq_true rfl) rfl rfl ?_
  refine x_aload_n (M := mX8_sideUp) (pc := 0) dX8_sideUp_0 rfl ?_
  refine x_get (M := mX8_sideUp) (pc := 1) kcX8 1 rfl q1200 dX8_sideUp_1 (by first | assumption | exact xu_s _ _ _ | exact (xu_n (by first | assumption | exact Ne.symm (by assumption) | exact xu_fresh (by assumption) (by assumption) | exact (xu_fresh (by assumption) (by assumption)).symm)).trans (by first | assumption | exact xu_s _ _ _ | exact (xu_n (by first | assumption | exact Ne.symm (by assumption) | exact xu_fresh (by assumption) (by assumption) | exact (xu_fresh (by assumption) (by assumption)).symm)).trans (by first | assumption | exact xu_s _ _ _ | exact (xu_n (by first | assumption | exact Ne.symm (by assumption) | exact xu_fresh (by assumption) (by assumption) | exact (xu_fresh (by assumption) (by assumption)).symm)).trans (by first | assumption | exact xu_s _ _ _)))) rfl ?_
  refine x_iload_n (M := mX8_sideUp) (pc := 4) dX8_sideUp_4 rfl ?_
  refine x_iconst (M := mX8_sideUp) (pc := 5) (v := nI 2) dX8_sideUp_5 (by decide) ?_
  first | with_reducible refine x_idivN (M := mX8_sideUp) (pc := 6) dX8_sideUp_6 (by omega) (by omega) (by omega) ?_ | refine x_idiv (M := mX8_sideUp) (pc := 6) dX8_sideUp_6 (by first | decide | assumption) ?_
  refine x_aaldN (M := mX8_sideUp) (pc := 7) _ dX8_sideUp_7 (by first | assumption | exact xu_s _ _ _ | exact (xu_n (by first | assumption | exact Ne.symm (by assumption) | exact xu_fresh (by assumption) (by assumption) | exact (xu_fresh (by assumption) (by assumption)).symm)).trans (by first | assumption | exact xu_s _ _ _ | exact (xu_n (by first | assumption | exact Ne.symm (by assumption) | exact xu_fresh (by assumption) (by assumption) | exact (xu_fresh (by assumption) (by assumption)).symm)).trans (by first | assumption | exact xu_s _ _ _ | exact (xu_n (by first | assumption | exact Ne.symm (by assumption) | exact xu_fresh (by assumption) (by assumption) | exact (xu_fresh (by assumption) (by assumption)).symm)).trans (by first | assumption | exact xu_s _ _ _)))) (by first | rfl | assumption) (by first | assumption | omega) (by first | decide | omega) (hvk) ?_
  refine x_V0 (M := mX8_sideUp) (pc := 8) (M' := mX6_sideUp) q1293 kVX6_sideUp dX8_sideUp_8 (c_sideUp h (La (pg / 2)) _ _ (d - 1) _ hla) (xIs.of kcX6 hla) (fun v_ h hq_ => ?_)
  obtain ⟨hv_, rfl⟩ := hq_; cases hv_
  rotate_left
  refine x_val (M := mX8_sideUp) (pc := 11) (show bI ((ly (pg / 2)).2.1 != (ly (pg / 2)).2.2) = nI (p_side (ly (pg / 2))).toNat from bI_nI _) ?_
  refine x_istore2 (M := mX8_sideUp) (pc := 11) dX8_sideUp_11 ?_
  refine x_iload_n (M := mX8_sideUp) (pc := 12) dX8_sideUp_12 rfl ?_
  refine x_iconst (M := mX8_sideUp) (pc := 13) (v := nI 2) dX8_sideUp_13 (by decide) ?_
  first | with_reducible refine x_iremN (M := mX8_sideUp) (pc := 14) dX8_sideUp_14 (by omega) (by omega) (by omega) ?_ | refine x_irem (M := mX8_sideUp) (pc := 14) dX8_sideUp_14 (by first | decide | assumption) ?_
  first | with_reducible refine x_ifB_ne (M := mX8_sideUp) (pc := 15) 22 dX8_sideUp_15 (by decide) (fun c15 => ?_) (fun c15 => ?_) | with_reducible refine x_if_neN (M := mX8_sideUp) (pc := 15) 22 dX8_sideUp_15 (by decide) (by omega) (fun c15 => ?_) (fun c15 => ?_) | refine x_if_ne (M := mX8_sideUp) (pc := 15) 22 dX8_sideUp_15 (by decide) (fun c15 => ?_) (fun c15 => ?_)
  refine x_iconst (M := mX8_sideUp) (pc := 22) (v := nI 1) dX8_sideUp_22 (by decide) ?_
  refine x_iload_n (M := mX8_sideUp) (pc := 23) dX8_sideUp_23 rfl ?_
  first | with_reducible refine x_isubN (M := mX8_sideUp) (pc := 24) dX8_sideUp_24 (by omega) ?_ | refine x_isub (M := mX8_sideUp) (pc := 24) dX8_sideUp_24 ?_
  rotate_left
  refine x_iload_n (M := mX8_sideUp) (pc := 18) dX8_sideUp_18 rfl ?_
  refine x_goto (M := mX8_sideUp) (pc := 19) 25 dX8_sideUp_19 (by decide) ?_
  rotate_left
  · have e : (p_side (ly (pg / 2)) != decide (pg % 2 = 1)).toNat = 1 - (p_side (ly (pg / 2))).toNat := by rw [decide_eq_true (by omega)]; cases p_side (ly (pg / 2)) <;> rfl
    rw [e]
    refine x_iret (M := mX8_sideUp) (pc := 25) dX8_sideUp_25 rfl (by first | exact Nat.le_of_ble_eq_true rfl | omega) (by first | exact Nat.le_of_ble_eq_true rfl | omega) ?_
    exact ⟨rfl, rfl⟩
  · have e : (p_side (ly (pg / 2)) != decide (pg % 2 = 1)) = p_side (ly (pg / 2)) := by rw [decide_eq_false (by omega)]; cases p_side (ly (pg / 2)) <;> rfl
    rw [e]
    refine x_iret (M := mX8_sideUp) (pc := 25) dX8_sideUp_25 rfl (by first | exact Nat.le_of_ble_eq_true rfl | omega) (by first | exact Nat.le_of_ble_eq_true rfl | omega) ?_
    exact ⟨rfl, rfl⟩
theorem c_sideOfB (h : xH) (bk sh pg d : Nat) (hd : 2 ≤ d) (s : Row) (ly : Nat → Lay) (hB : BS g h bk sh s ly) (hpg : pg < 2 * (zHi s * zWi s)) : Ct g l mX8_sideOf d 0 0 [.ref bk, .int (nI pg)] h (fun o h' => o = .inl (some (.int (nI (p_sd ly pg)))) ∧ h' = h) := by
  have hB0 := hB
  obtain ⟨P, sx, sy, La, xs, J, ⟨lv, jl, ja, cap, sb, hbk, ⟨f, hlv, hf⟩, hly, hJO, hsb⟩, hS, hW, hp, hper, hJ32⟩ := hB
  have hb := hW.b
  have hk : pg / 2 < zHi s * zWi s := by omega
  have hla := hly _ hk
  unfold lyE at hla
  have hvk : va_rf (f (pg / 2)) = .ref (La (pg / 2)) := by rw [hf _ hk]; rfl
  have e : (ly (pg / 2)).1 / zWi s * zWi s + (ly (pg / 2)).1 % zWi s = (ly (pg / 2)).1 := by rw [Nat.mul_comm]; exact Nat.div_add_mod _ _
  refine Ct.of [some (.ref bk), some (.int (nI pg)), none] (by decide +kernel) rfl (Nat.le_of_ble_eq_true rfl) rfl rfl ?_
  refine x_aload_n (M := mX8_sideOf) (pc := 0) dX8_sideOf_0 rfl ?_
  refine x_get (M := mX8_sideOf) (pc := 1) kcX8 1 rfl q1200 dX8_sideOf_1 (by first | assumption | exact xu_s _ _ _ | exact (xu_n (by first | assumption | exact Ne.symm (by assumption) | exact xu_fresh (by assumption) (by assumption) | exact (xu_fresh (by assumption) (by assumption)).symm)).trans (by first | assumption | exact xu_s _ _ _ | exact (xu_n (by first | assumption | exact Ne.symm (by assumption) | exact xu_fresh (by assumption) (by assumption) | exact (xu_fresh (by assumption) (by assumption)).symm)).trans (by first | assumption | exact xu_s _ _ _ | exact (xu_n (by first | assumption | exact Ne.symm (by assumption) | exact xu_fresh (by assumption) (by assumption) | exact (xu_fresh (by assumption) (by assumption)).symm)).trans (by first | assumption | exact xu_s _ _ _)))) rfl ?_
  refine x_iload_n (M := mX8_sideOf) (pc := 4) dX8_sideOf_4 rfl ?_
  refine x_iconst (M := mX8_sideOf) (pc := 5) (v := nI 2) dX8_sideOf_5 (by decide) ?_
  first | with_reducible refine x_idivN (M := mX8_sideOf) (pc := 6) dX8_sideOf_6 (by omega) (by omega) (by omega) ?_ | refine x_idiv (M := mX8_sideOf) (pc := 6) dX8_sideOf_6 (by first | decide | assumption) ?_
  refine x_aaldN (M := mX8_sideOf) (pc := 7) _ dX8_sideOf_7 (by first | assumption | exact xu_s _ _ _ | exact (xu_n (by first | assumption | exact Ne.symm (by assumption) | exact xu_fresh (by assumption) (by assumption) | exact (xu_fresh (by assumption) (by assumption)).symm)).trans (by first | assumption | exact xu_s _ _ _ | exact (xu_n (by first | assumption | exact Ne.symm (by assumption) | exact xu_fresh (by assumption) (by assumption) | exact (xu_fresh (by assumption) (by assumption)).symm)).trans (by first | assumption | exact xu_s _ _ _ | exact (xu_n (by first | assumption | exact Ne.symm (by assumption) | exact xu_fresh (by assumption) (by assumption) | exact (xu_fresh (by assumption) (by assumption)).symm)).trans (by first | assumption | exact xu_s _ _ _)))) (by first | rfl | assumption) (by first | assumption | omega) (by first | decide | omega) (hvk) ?_
  refine x_astore2 (M := mX8_sideOf) (pc := 8) dX8_sideOf_8 ?_
  refine x_aload_n (M := mX8_sideOf) (pc := 9) dX8_sideOf_9 rfl ?_
  refine x_get (M := mX8_sideOf) (pc := 10) kcX8 0 rfl q1198 dX8_sideOf_10 (by first | assumption | exact xu_s _ _ _ | exact (xu_n (by first | assumption | exact Ne.symm (by assumption) | exact xu_fresh (by assumption) (by assumption) | exact (xu_fresh (by assumption) (by assumption)).symm)).trans (by first | assumption | exact xu_s _ _ _ | exact (xu_n (by first | assumption | exact Ne.symm (by assumption) | exact xu_fresh (by assumption) (by assumption) | exact (xu_fresh (by assumption) (by assumption)).symm)).trans (by first | assumption | exact xu_s _ _ _ | exact (xu_n (by first | assumption | exact Ne.symm (by assumption) | exact xu_fresh (by assumption) (by assumption) | exact (xu_fresh (by assumption) (by assumption)).symm)).trans (by first | assumption | exact xu_s _ _ _)))) rfl ?_
  refine x_aload_n (M := mX8_sideOf) (pc := 13) dX8_sideOf_13 rfl ?_
  refine x_getN (M := mX8_sideOf) (pc := 14) kcX6 0 rfl q477 dX8_sideOf_14 (by first | assumption | exact xu_s _ _ _ | exact (xu_n (by first | assumption | exact Ne.symm (by assumption) | exact xu_fresh (by assumption) (by assumption) | exact (xu_fresh (by assumption) (by assumption)).symm)).trans (by first | assumption | exact xu_s _ _ _ | exact (xu_n (by first | assumption | exact Ne.symm (by assumption) | exact xu_fresh (by assumption) (by assumption) | exact (xu_fresh (by assumption) (by assumption)).symm)).trans (by first | assumption | exact xu_s _ _ _ | exact (xu_n (by first | assumption | exact Ne.symm (by assumption) | exact xu_fresh (by assumption) (by assumption) | exact (xu_fresh (by assumption) (by assumption)).symm)).trans (by first | assumption | exact xu_s _ _ _)))) rfl ?_
  refine x_aload_n (M := mX8_sideOf) (pc := 17) dX8_sideOf_17 rfl ?_
  refine x_getN (M := mX8_sideOf) (pc := 18) kcX6 1 rfl q479 dX8_sideOf_18 (by first | assumption | exact xu_s _ _ _ | exact (xu_n (by first | assumption | exact Ne.symm (by assumption) | exact xu_fresh (by assumption) (by assumption) | exact (xu_fresh (by assumption) (by assumption)).symm)).trans (by first | assumption | exact xu_s _ _ _ | exact (xu_n (by first | assumption | exact Ne.symm (by assumption) | exact xu_fresh (by assumption) (by assumption) | exact (xu_fresh (by assumption) (by assumption)).symm)).trans (by first | assumption | exact xu_s _ _ _ | exact (xu_n (by first | assumption | exact Ne.symm (by assumption) | exact xu_fresh (by assumption) (by assumption) | exact (xu_fresh (by assumption) (by assumption)).symm)).trans (by first | assumption | exact xu_s _ _ _)))) rfl ?_
  refine x_aload_n (M := mX8_sideOf) (pc := 21) dX8_sideOf_21 rfl ?_
  refine x_iload_n (M := mX8_sideOf) (pc := 22) dX8_sideOf_22 rfl ?_
  refine x_V1 (M := mX8_sideOf) (pc := 23) (M' := mX8_sideUp) q1289 kVX8_sideUp dX8_sideOf_23 (c_sideUpB h bk sh pg (d - 1) (by omega) s ly hB0 hpg) (xIs.of kcX8 (by first | assumption | exact xu_s _ _ _ | exact (xu_n (by first | assumption | exact Ne.symm (by assumption) | exact xu_fresh (by assumption) (by assumption) | exact (xu_fresh (by assumption) (by assumption)).symm)).trans (by first | assumption | exact xu_s _ _ _ | exact (xu_n (by first | assumption | exact Ne.symm (by assumption) | exact xu_fresh (by assumption) (by assumption) | exact (xu_fresh (by assumption) (by assumption)).symm)).trans (by first | assumption | exact xu_s _ _ _ | exact (xu_n (by first | assumption | exact Ne.symm (by assumption) | exact xu_fresh (by assumption) (by assumption) | exact (xu_fresh (by assumption) (by assumption)).symm)).trans (by first | assumption | exact xu_s _ _ _))))) (fun v_ h hq_ => ?_)
  obtain ⟨hv_, rfl⟩ := hq_; cases hv_
  refine x_V3 (M := mX8_sideOf) (pc := 26) (M' := mX2_sideOf) q1297 kVX2_sideOf dX8_sideOf_26 (c_sideOfS h sh (d - 1) _ _ _ P s hS.1) (hS.is) (fun v_ h hq_ => ?_)
  obtain ⟨hv_, rfl⟩ := hq_; cases hv_
  refine x_iret (M := mX8_sideOf) (pc := 29) dX8_sideOf_29 rfl (by first | exact Nat.le_of_ble_eq_true rfl | omega) (by first | exact Nat.le_of_ble_eq_true rfl | omega) ?_
  exact ⟨by rw [e]; rfl, rfl⟩
theorem c_numberOn (h : xH) (bk sh pg d : Nat) (hd : 3 ≤ d) (s : Row) (ly : Nat → Lay) (hB : BS g h bk sh s ly) (hpg : pg < 2 * (zHi s * zWi s)) : Ct g l mX8_numberOn d 0 0 [.ref bk, .int (nI pg)] h (fun o h' => o = .inl (some (.int (zNone (s (90 + p_sd ly pg))))) ∧ h' = h) := by
  have hB0 := hB
  obtain ⟨P, sx, sy, La, xs, J, ⟨lv, jl, ja, cap, sb, hbk, ⟨f, hlv, hf⟩, hly, hJO, hsb⟩, hS, hW, hp, hper, hJ32⟩ := hB
  have hb := hW.b
  have hlt := p_sd_lt (s := s) hpg (fun t ht => (hper t ht).1)
  have hsh := hS.1
  unfold shE at hsh
  obtain ⟨fn, hn1, hn2⟩ := hS.2.2.1
  refine Ct.of [some (.ref bk), some (.int (nI pg))] (by decide +kernel) rfl (Nat.le_of_ble_eq_true rfl) rfl rfl ?_
  refine x_aload_n (M := mX8_numberOn) (pc := 0) dX8_numberOn_0 rfl ?_
  refine x_get (M := mX8_numberOn) (pc := 1) kcX8 0 rfl q1198 dX8_numberOn_1 (by first | assumption | exact xu_s _ _ _ | exact (xu_n (by first | assumption | exact Ne.symm (by assumption) | exact xu_fresh (by assumption) (by assumption) | exact (xu_fresh (by assumption) (by assumption)).symm)).trans (by first | assumption | exact xu_s _ _ _ | exact (xu_n (by first | assumption | exact Ne.symm (by assumption) | exact xu_fresh (by assumption) (by assumption) | exact (xu_fresh (by assumption) (by assumption)).symm)).trans (by first | assumption | exact xu_s _ _ _ | exact (xu_n (by first | assumption | exact Ne.symm (by assumption) | exact xu_fresh (by assumption) (by assumption) | exact (xu_fresh (by assumption) (by assumption)).symm)).trans (by first | assumption | exact xu_s _ _ _)))) rfl ?_
  refine x_getN (M := mX8_numberOn) (pc := 4) kcX2 4 rfl q229 dX8_numberOn_4 (by first | assumption | exact xu_s _ _ _ | exact (xu_n (by first | assumption | exact Ne.symm (by assumption) | exact xu_fresh (by assumption) (by assumption) | exact (xu_fresh (by assumption) (by assumption)).symm)).trans (by first | assumption | exact xu_s _ _ _ | exact (xu_n (by first | assumption | exact Ne.symm (by assumption) | exact xu_fresh (by assumption) (by assumption) | exact (xu_fresh (by assumption) (by assumption)).symm)).trans (by first | assumption | exact xu_s _ _ _ | exact (xu_n (by first | assumption | exact Ne.symm (by assumption) | exact xu_fresh (by assumption) (by assumption) | exact (xu_fresh (by assumption) (by assumption)).symm)).trans (by first | assumption | exact xu_s _ _ _)))) rfl ?_
  refine x_aload_n (M := mX8_numberOn) (pc := 7) dX8_numberOn_7 rfl ?_
  refine x_iload_n (M := mX8_numberOn) (pc := 8) dX8_numberOn_8 rfl ?_
  refine x_V1 (M := mX8_numberOn) (pc := 9) (M' := mX8_sideOf) q1285 kVX8_sideOf dX8_numberOn_9 (c_sideOfB h bk sh pg (d - 1) (by omega) s ly hB0 hpg) (xIs.of kcX8 (by first | assumption | exact xu_s _ _ _ | exact (xu_n (by first | assumption | exact Ne.symm (by assumption) | exact xu_fresh (by assumption) (by assumption) | exact (xu_fresh (by assumption) (by assumption)).symm)).trans (by first | assumption | exact xu_s _ _ _ | exact (xu_n (by first | assumption | exact Ne.symm (by assumption) | exact xu_fresh (by assumption) (by assumption) | exact (xu_fresh (by assumption) (by assumption)).symm)).trans (by first | assumption | exact xu_s _ _ _ | exact (xu_n (by first | assumption | exact Ne.symm (by assumption) | exact xu_fresh (by assumption) (by assumption) | exact (xu_fresh (by assumption) (by assumption)).symm)).trans (by first | assumption | exact xu_s _ _ _))))) (fun v_ h hq_ => ?_)
  obtain ⟨hv_, rfl⟩ := hq_; cases hv_
  refine x_ialdN (M := mX8_numberOn) (pc := 12) _ dX8_numberOn_12 (by first | assumption | exact xu_s _ _ _ | exact (xu_n (by first | assumption | exact Ne.symm (by assumption) | exact xu_fresh (by assumption) (by assumption) | exact (xu_fresh (by assumption) (by assumption)).symm)).trans (by first | assumption | exact xu_s _ _ _ | exact (xu_n (by first | assumption | exact Ne.symm (by assumption) | exact xu_fresh (by assumption) (by assumption) | exact (xu_fresh (by assumption) (by assumption)).symm)).trans (by first | assumption | exact xu_s _ _ _ | exact (xu_n (by first | assumption | exact Ne.symm (by assumption) | exact xu_fresh (by assumption) (by assumption) | exact (xu_fresh (by assumption) (by assumption)).symm)).trans (by first | assumption | exact xu_s _ _ _)))) (by first | rfl | assumption) (by first | assumption | omega) (by first | decide | omega) ?_
  refine x_val (M := mX8_numberOn) (pc := 13) (hn2 _ (by omega)) ?_
  refine x_iret (M := mX8_numberOn) (pc := 13) dX8_numberOn_13 rfl (by first | exact Nat.le_of_ble_eq_true rfl | omega) (by first | exact Nat.le_of_ble_eq_true rfl | omega) ?_
  exact ⟨rfl, rfl⟩
theorem c_isTurning (h : xH) (bk sh pg d : Nat) (s : Row) (ly : Nat → Lay) (hB : BS g h bk sh s ly) (hpg : pg < 2 * (zHi s * zWi s)) : Ct g l mX8_isTurning d 0 0 [.ref bk, .int (nI pg)] h (fun o h' => o = .inl (some (.int (bI (p_tn ly (zN s 7) pg)))) ∧ h' = h) := by
  obtain ⟨P, sx, sy, La, xs, J, ⟨lv, jl, ja, cap, sb, hbk, ⟨f, hlv, hf⟩, hly, hJO, hsb⟩, hS, hW, hp, hper, hJ32⟩ := hB
  have hb := hW.b
  have h7 := hW.2.1.2
  have hk : pg / 2 < zHi s * zWi s := by omega
  have hla := hly _ hk
  unfold lyE at hla
  have hsh := hS.1
  unfold shE at hsh
  have hvk : va_rf (f (pg / 2)) = .ref (La (pg / 2)) := by rw [hf _ hk]; rfl
  have ib : ∀ a b : Bool, (bI a = bI b) ↔ a = b := fun a b => bI_inj
  refine Ct.of [some (.ref bk), some (.int (nI pg))] (by decide +kernel) rfl (Nat.le_of_ble_eq_true rfl) rfl rfl ?_
  refine x_aload_n (M := mX8_isTurning) (pc := 0) dX8_isTurning_0 rfl ?_
  refine x_get (M := mX8_isTurning) (pc := 1) kcX8 1 rfl q1200 dX8_isTurning_1 (by first | assumption | exact xu_s _ _ _ | exact (xu_n (by first | assumption | exact Ne.symm (by assumption) | exact xu_fresh (by assumption) (by assumption) | exact (xu_fresh (by assumption) (by assumption)).symm)).trans (by first | assumption | exact xu_s _ _ _ | exact (xu_n (by first | assumption | exact Ne.symm (by assumption) | exact xu_fresh (by assumption) (by assumption) | exact (xu_fresh (by assumption) (by assumption)).symm)).trans (by first | assumption | exact xu_s _ _ _ | exact (xu_n (by first | assumption | exact Ne.symm (by assumption) | exact xu_fresh (by assumption) (by assumption) | exact (xu_fresh (by assumption) (by assumption)).symm)).trans (by first | assumption | exact xu_s _ _ _)))) rfl ?_
  refine x_iload_n (M := mX8_isTurning) (pc := 4) dX8_isTurning_4 rfl ?_
  refine x_iconst (M := mX8_isTurning) (pc := 5) (v := nI 2) dX8_isTurning_5 (by decide) ?_
  first | with_reducible refine x_idivN (M := mX8_isTurning) (pc := 6) dX8_isTurning_6 (by omega) (by omega) (by omega) ?_ | refine x_idiv (M := mX8_isTurning) (pc := 6) dX8_isTurning_6 (by first | decide | assumption) ?_
  refine x_aaldN (M := mX8_isTurning) (pc := 7) _ dX8_isTurning_7 (by first | assumption | exact xu_s _ _ _ | exact (xu_n (by first | assumption | exact Ne.symm (by assumption) | exact xu_fresh (by assumption) (by assumption) | exact (xu_fresh (by assumption) (by assumption)).symm)).trans (by first | assumption | exact xu_s _ _ _ | exact (xu_n (by first | assumption | exact Ne.symm (by assumption) | exact xu_fresh (by assumption) (by assumption) | exact (xu_fresh (by assumption) (by assumption)).symm)).trans (by first | assumption | exact xu_s _ _ _ | exact (xu_n (by first | assumption | exact Ne.symm (by assumption) | exact xu_fresh (by assumption) (by assumption) | exact (xu_fresh (by assumption) (by assumption)).symm)).trans (by first | assumption | exact xu_s _ _ _)))) (by first | rfl | assumption) (by first | assumption | omega) (by first | decide | omega) (hvk) ?_
  refine x_getN (M := mX8_isTurning) (pc := 8) kcX6 3 rfl q483 dX8_isTurning_8 (by first | assumption | exact xu_s _ _ _ | exact (xu_n (by first | assumption | exact Ne.symm (by assumption) | exact xu_fresh (by assumption) (by assumption) | exact (xu_fresh (by assumption) (by assumption)).symm)).trans (by first | assumption | exact xu_s _ _ _ | exact (xu_n (by first | assumption | exact Ne.symm (by assumption) | exact xu_fresh (by assumption) (by assumption) | exact (xu_fresh (by assumption) (by assumption)).symm)).trans (by first | assumption | exact xu_s _ _ _ | exact (xu_n (by first | assumption | exact Ne.symm (by assumption) | exact xu_fresh (by assumption) (by assumption) | exact (xu_fresh (by assumption) (by assumption)).symm)).trans (by first | assumption | exact xu_s _ _ _)))) rfl ?_
  refine x_joinV 34 (bI (decide (zN s 7 = 1) && decide (pg % 2 = 1))) (fun J => ?_) ?_
  · refine x_aload_n (M := mX8_isTurning) (pc := 11) dX8_isTurning_11 rfl ?_
    refine x_get (M := mX8_isTurning) (pc := 12) kcX8 0 rfl q1198 dX8_isTurning_12 (by first | assumption | exact xu_s _ _ _ | exact (xu_n (by first | assumption | exact Ne.symm (by assumption) | exact xu_fresh (by assumption) (by assumption) | exact (xu_fresh (by assumption) (by assumption)).symm)).trans (by first | assumption | exact xu_s _ _ _ | exact (xu_n (by first | assumption | exact Ne.symm (by assumption) | exact xu_fresh (by assumption) (by assumption) | exact (xu_fresh (by assumption) (by assumption)).symm)).trans (by first | assumption | exact xu_s _ _ _ | exact (xu_n (by first | assumption | exact Ne.symm (by assumption) | exact xu_fresh (by assumption) (by assumption) | exact (xu_fresh (by assumption) (by assumption)).symm)).trans (by first | assumption | exact xu_s _ _ _)))) rfl ?_
    refine x_getN (M := mX8_isTurning) (pc := 15) kcX2 6 rfl q236 dX8_isTurning_15 (by first | assumption | exact xu_s _ _ _ | exact (xu_n (by first | assumption | exact Ne.symm (by assumption) | exact xu_fresh (by assumption) (by assumption) | exact (xu_fresh (by assumption) (by assumption)).symm)).trans (by first | assumption | exact xu_s _ _ _ | exact (xu_n (by first | assumption | exact Ne.symm (by assumption) | exact xu_fresh (by assumption) (by assumption) | exact (xu_fresh (by assumption) (by assumption)).symm)).trans (by first | assumption | exact xu_s _ _ _ | exact (xu_n (by first | assumption | exact Ne.symm (by assumption) | exact xu_fresh (by assumption) (by assumption) | exact (xu_fresh (by assumption) (by assumption)).symm)).trans (by first | assumption | exact xu_s _ _ _)))) rfl ?_
    refine x_iconst (M := mX8_isTurning) (pc := 18) (v := nI 1) dX8_isTurning_18 (by decide) ?_
    first | with_reducible refine x_icmp_neN (M := mX8_isTurning) (pc := 19) 33 dX8_isTurning_19 (by decide) (by omega) (by omega) (fun c19 => ?_) (fun c19 => ?_) | refine x_icmp_ne (M := mX8_isTurning) (pc := 19) 33 dX8_isTurning_19 (by decide) (fun c19 => ?_) (fun c19 => ?_)
    · refine x_iconst (M := mX8_isTurning) (pc := 33) (v := nI 0) dX8_isTurning_33 (by decide) ?_
      exact J _ (by first | rw [decide_eq_false c19]; rfl | rw [decide_eq_false c26, Bool.and_false]; rfl | rw [decide_eq_true c19, decide_eq_true c26]; rfl)
    · refine x_iload_n (M := mX8_isTurning) (pc := 22) dX8_isTurning_22 rfl ?_
      refine x_iconst (M := mX8_isTurning) (pc := 23) (v := nI 2) dX8_isTurning_23 (by decide) ?_
      first | with_reducible refine x_iremN (M := mX8_isTurning) (pc := 24) dX8_isTurning_24 (by omega) (by omega) (by omega) ?_ | refine x_irem (M := mX8_isTurning) (pc := 24) dX8_isTurning_24 (by first | decide | assumption) ?_
      refine x_iconst (M := mX8_isTurning) (pc := 25) (v := nI 1) dX8_isTurning_25 (by decide) ?_
      first | with_reducible refine x_icmp_neN (M := mX8_isTurning) (pc := 26) 33 dX8_isTurning_26 (by decide) (by omega) (by omega) (fun c26 => ?_) (fun c26 => ?_) | refine x_icmp_ne (M := mX8_isTurning) (pc := 26) 33 dX8_isTurning_26 (by decide) (fun c26 => ?_) (fun c26 => ?_)
      · refine x_iconst (M := mX8_isTurning) (pc := 33) (v := nI 0) dX8_isTurning_33 (by decide) ?_
        exact J _ (by first | rw [decide_eq_false c19]; rfl | rw [decide_eq_false c26, Bool.and_false]; rfl | rw [decide_eq_true c19, decide_eq_true c26]; rfl)
      · refine x_iconst (M := mX8_isTurning) (pc := 29) (v := nI 1) dX8_isTurning_29 (by decide) ?_
        refine x_goto (M := mX8_isTurning) (pc := 30) 34 dX8_isTurning_30 (by decide) ?_
        exact J _ (by first | rw [decide_eq_false c19]; rfl | rw [decide_eq_false c26, Bool.and_false]; rfl | rw [decide_eq_true c19, decide_eq_true c26]; rfl)
  refine x_icmp_eq (M := mX8_isTurning) (pc := 34) 41 dX8_isTurning_34 (by decide) (fun r_c => ?_) (fun r_c => ?_)
  · refine x_iconst (M := mX8_isTurning) (pc := 41) (v := nI 0) dX8_isTurning_41 (by decide) ?_
    refine x_zret (M := mX8_isTurning) (pc := 42) dX8_isTurning_42 rfl (by first | with_reducible exact xz0 | with_reducible exact xz1 | with_reducible exact bI_01 _ | with_reducible assumption | assumption) (by first | exact Nat.le_of_ble_eq_true rfl | omega) (by first | exact Nat.le_of_ble_eq_true rfl | omega) ?_
    refine ⟨congrArg Sum.inl ?_, rfl⟩; rw [ib] at r_c; first | exact vB1 (by unfold p_tn; simp [r_c]) | exact vB0 (by unfold p_tn; simp [r_c])
  · refine x_iconst (M := mX8_isTurning) (pc := 37) (v := nI 1) dX8_isTurning_37 (by decide) ?_
    refine x_goto (M := mX8_isTurning) (pc := 38) 42 dX8_isTurning_38 (by decide) ?_
    refine x_zret (M := mX8_isTurning) (pc := 42) dX8_isTurning_42 rfl (by first | with_reducible exact xz0 | with_reducible exact xz1 | with_reducible exact bI_01 _ | with_reducible assumption | assumption) (by first | exact Nat.le_of_ble_eq_true rfl | omega) (by first | exact Nat.le_of_ble_eq_true rfl | omega) ?_
    refine ⟨congrArg Sum.inl ?_, rfl⟩; rw [ib] at r_c; first | exact vB1 (by unfold p_tn; simp [r_c]) | exact vB0 (by unfold p_tn; simp [r_c])
theorem c_isUprightB (h : xH) (bk sh pg d : Nat) (hd : 3 ≤ d) (s : Row) (ly : Nat → Lay) (hB : BS g h bk sh s ly) (hpg : pg < 2 * (zHi s * zWi s)) : Ct g l mX8_isUpright d 0 0 [.ref bk, .int (nI pg)] h (fun o h' => o = .inl (some (.int (bI (p_tn ly (zN s 7) pg == zTu s (p_sd ly pg))))) ∧ h' = h) := by
  have hB0 := hB
  obtain ⟨P, sx, sy, La, xs, J, ⟨lv, jl, ja, cap, sb, hbk, ⟨f, hlv, hf⟩, hly, hJO, hsb⟩, hS, hW, hp, hper, hJ32⟩ := hB
  have hb := hW.b
  have hlt := p_sd_lt (s := s) hpg (fun t ht => (hper t ht).1)
  have hsh := hS.1
  unfold shE at hsh
  obtain ⟨fn, hn1, hn2⟩ := hS.2.2.2.1
  have e : fn (p_sd ly pg) = bI (zTu s (p_sd ly pg)) := (hn2 _ (by omega)).trans (hW.2.2.2.2.2.2.2.2.2.2 _ (by omega)).2
  have ib : ∀ a b : Bool, (bI a = bI b) ↔ a = b := fun a b => bI_inj
  refine Ct.of [some (.ref bk), some (.int (nI pg))] (by decide +kernel) rfl (Nat.le_of_ble_eq_true rfl) rfl rfl ?_
  refine x_aload_n (M := mX8_isUpright) (pc := 0) dX8_isUpright_0 rfl ?_
  refine x_iload_n (M := mX8_isUpright) (pc := 1) dX8_isUpright_1 rfl ?_
  refine x_V1 (M := mX8_isUpright) (pc := 2) (M' := mX8_isTurning) q1298 kVX8_isTurning dX8_isUpright_2 (c_isTurning h bk sh pg (d - 1) s ly hB0 hpg) (xIs.of kcX8 (by first | assumption | exact xu_s _ _ _ | exact (xu_n (by first | assumption | exact Ne.symm (by assumption) | exact xu_fresh (by assumption) (by assumption) | exact (xu_fresh (by assumption) (by assumption)).symm)).trans (by first | assumption | exact xu_s _ _ _ | exact (xu_n (by first | assumption | exact Ne.symm (by assumption) | exact xu_fresh (by assumption) (by assumption) | exact (xu_fresh (by assumption) (by assumption)).symm)).trans (by first | assumption | exact xu_s _ _ _ | exact (xu_n (by first | assumption | exact Ne.symm (by assumption) | exact xu_fresh (by assumption) (by assumption) | exact (xu_fresh (by assumption) (by assumption)).symm)).trans (by first | assumption | exact xu_s _ _ _))))) (fun v_ h hq_ => ?_)
  obtain ⟨hv_, rfl⟩ := hq_; cases hv_
  refine x_aload_n (M := mX8_isUpright) (pc := 5) dX8_isUpright_5 rfl ?_
  refine x_get (M := mX8_isUpright) (pc := 6) kcX8 0 rfl q1198 dX8_isUpright_6 (by first | assumption | exact xu_s _ _ _ | exact (xu_n (by first | assumption | exact Ne.symm (by assumption) | exact xu_fresh (by assumption) (by assumption) | exact (xu_fresh (by assumption) (by assumption)).symm)).trans (by first | assumption | exact xu_s _ _ _ | exact (xu_n (by first | assumption | exact Ne.symm (by assumption) | exact xu_fresh (by assumption) (by assumption) | exact (xu_fresh (by assumption) (by assumption)).symm)).trans (by first | assumption | exact xu_s _ _ _ | exact (xu_n (by first | assumption | exact Ne.symm (by assumption) | exact xu_fresh (by assumption) (by assumption) | exact (xu_fresh (by assumption) (by assumption)).symm)).trans (by first | assumption | exact xu_s _ _ _)))) rfl ?_
  refine x_getN (M := mX8_isUpright) (pc := 9) kcX2 5 rfl q232 dX8_isUpright_9 (by first | assumption | exact xu_s _ _ _ | exact (xu_n (by first | assumption | exact Ne.symm (by assumption) | exact xu_fresh (by assumption) (by assumption) | exact (xu_fresh (by assumption) (by assumption)).symm)).trans (by first | assumption | exact xu_s _ _ _ | exact (xu_n (by first | assumption | exact Ne.symm (by assumption) | exact xu_fresh (by assumption) (by assumption) | exact (xu_fresh (by assumption) (by assumption)).symm)).trans (by first | assumption | exact xu_s _ _ _ | exact (xu_n (by first | assumption | exact Ne.symm (by assumption) | exact xu_fresh (by assumption) (by assumption) | exact (xu_fresh (by assumption) (by assumption)).symm)).trans (by first | assumption | exact xu_s _ _ _)))) rfl ?_
  refine x_aload_n (M := mX8_isUpright) (pc := 12) dX8_isUpright_12 rfl ?_
  refine x_iload_n (M := mX8_isUpright) (pc := 13) dX8_isUpright_13 rfl ?_
  refine x_V1 (M := mX8_isUpright) (pc := 14) (M' := mX8_sideOf) q1285 kVX8_sideOf dX8_isUpright_14 (c_sideOfB h bk sh pg (d - 1) (by omega) s ly hB0 hpg) (xIs.of kcX8 (by first | assumption | exact xu_s _ _ _ | exact (xu_n (by first | assumption | exact Ne.symm (by assumption) | exact xu_fresh (by assumption) (by assumption) | exact (xu_fresh (by assumption) (by assumption)).symm)).trans (by first | assumption | exact xu_s _ _ _ | exact (xu_n (by first | assumption | exact Ne.symm (by assumption) | exact xu_fresh (by assumption) (by assumption) | exact (xu_fresh (by assumption) (by assumption)).symm)).trans (by first | assumption | exact xu_s _ _ _ | exact (xu_n (by first | assumption | exact Ne.symm (by assumption) | exact xu_fresh (by assumption) (by assumption) | exact (xu_fresh (by assumption) (by assumption)).symm)).trans (by first | assumption | exact xu_s _ _ _))))) (fun v_ h hq_ => ?_)
  obtain ⟨hv_, rfl⟩ := hq_; cases hv_
  refine x_zaldN (M := mX8_isUpright) (pc := 17) _ dX8_isUpright_17 (by first | assumption | exact xu_s _ _ _ | exact (xu_n (by first | assumption | exact Ne.symm (by assumption) | exact xu_fresh (by assumption) (by assumption) | exact (xu_fresh (by assumption) (by assumption)).symm)).trans (by first | assumption | exact xu_s _ _ _ | exact (xu_n (by first | assumption | exact Ne.symm (by assumption) | exact xu_fresh (by assumption) (by assumption) | exact (xu_fresh (by assumption) (by assumption)).symm)).trans (by first | assumption | exact xu_s _ _ _ | exact (xu_n (by first | assumption | exact Ne.symm (by assumption) | exact xu_fresh (by assumption) (by assumption) | exact (xu_fresh (by assumption) (by assumption)).symm)).trans (by first | assumption | exact xu_s _ _ _)))) (by first | rfl | assumption) (by first | assumption | omega) (by first | decide | omega) ?_
  refine x_val (M := mX8_isUpright) (pc := 18) (e) ?_
  refine x_icmp_ne (M := mX8_isUpright) (pc := 18) 25 dX8_isUpright_18 (by decide) (fun r_c => ?_) (fun r_c => ?_)
  · refine x_iconst (M := mX8_isUpright) (pc := 25) (v := nI 0) dX8_isUpright_25 (by decide) ?_
    refine x_zret (M := mX8_isUpright) (pc := 26) dX8_isUpright_26 rfl (by first | with_reducible exact xz0 | with_reducible exact xz1 | with_reducible exact bI_01 _ | with_reducible assumption | assumption) (by first | exact Nat.le_of_ble_eq_true rfl | omega) (by first | exact Nat.le_of_ble_eq_true rfl | omega) ?_
    refine ⟨congrArg Sum.inl ?_, rfl⟩; rw [ib] at r_c; first | exact vB1 (by simp [r_c]) | exact vB0 (by simp [r_c])
  · refine x_iconst (M := mX8_isUpright) (pc := 21) (v := nI 1) dX8_isUpright_21 (by decide) ?_
    refine x_goto (M := mX8_isUpright) (pc := 22) 26 dX8_isUpright_22 (by decide) ?_
    refine x_zret (M := mX8_isUpright) (pc := 26) dX8_isUpright_26 rfl (by first | with_reducible exact xz0 | with_reducible exact xz1 | with_reducible exact bI_01 _ | with_reducible assumption | assumption) (by first | exact Nat.le_of_ble_eq_true rfl | omega) (by first | exact Nat.le_of_ble_eq_true rfl | omega) ?_
    refine ⟨congrArg Sum.inl ?_, rfl⟩; rw [ib] at r_c; first | exact vB1 (by simp [r_c]) | exact vB0 (by simp [r_c])
def bHid (s : Row) (ly : Nat → Lay) (pg : Nat) : Bool := decide (p_shut (zN s 8) (p_se (zN s 7)) (zWi s) ly (zHi s * zWi s) ((pg + 1) / 2) ≠ 0)
theorem c_isHiddenB (h : xH) (bk sh pg d : Nat) (hd : 1 ≤ d) (s : Row) (ly : Nat → Lay) (hB : BS g h bk sh s ly) (hpg : pg < 2 * (zHi s * zWi s)) : Ct g l mX8_isHidden d 0 0 [.ref bk, .int (nI pg)] h (fun o h' => o = .inl (some (.int (bI (bHid s ly pg)))) ∧ h' = h) := by
  obtain ⟨P, sx, sy, La, xs, J, ⟨lv, jl, ja, cap, sb, hbk, ⟨f, hlv, hf⟩, hly, hJO, hsb⟩, hS, hW, hp, hper, hJ32⟩ := hB
  have hb := hW.b
  obtain ⟨fs, hs1, hs2⟩ := hsb
  have hlt := p_shut_lt (c := zN s 8) (se := p_se (zN s 7)) (wi := zWi s) (ly := ly) (n := zHi s * zWi s) (o := (pg + 1) / 2)
  refine Ct.of [some (.ref bk), some (.int (nI pg))] (by decide +kernel) rfl (Nat.le_of_ble_eq_true rfl) rfl rfl ?_
  refine x_aload_n (M := mX8_isHidden) (pc := 0) dX8_isHidden_0 rfl ?_
  refine x_get (M := mX8_isHidden) (pc := 1) kcX8 3 rfl q1203 dX8_isHidden_1 (by first | assumption | exact xu_s _ _ _ | exact (xu_n (by first | assumption | exact Ne.symm (by assumption) | exact xu_fresh (by assumption) (by assumption) | exact (xu_fresh (by assumption) (by assumption)).symm)).trans (by first | assumption | exact xu_s _ _ _ | exact (xu_n (by first | assumption | exact Ne.symm (by assumption) | exact xu_fresh (by assumption) (by assumption) | exact (xu_fresh (by assumption) (by assumption)).symm)).trans (by first | assumption | exact xu_s _ _ _ | exact (xu_n (by first | assumption | exact Ne.symm (by assumption) | exact xu_fresh (by assumption) (by assumption) | exact (xu_fresh (by assumption) (by assumption)).symm)).trans (by first | assumption | exact xu_s _ _ _)))) rfl ?_
  refine x_aload_n (M := mX8_isHidden) (pc := 4) dX8_isHidden_4 rfl ?_
  refine x_iload_n (M := mX8_isHidden) (pc := 5) dX8_isHidden_5 rfl ?_
  refine x_V1 (M := mX8_isHidden) (pc := 6) (M' := mX8_openingOf) q2060 kVX8_openingOf dX8_isHidden_6 (c_openingOf h bk pg (d - 1) (by omega)) (xIs.of kcX8 (by first | assumption | exact xu_s _ _ _ | exact (xu_n (by first | assumption | exact Ne.symm (by assumption) | exact xu_fresh (by assumption) (by assumption) | exact (xu_fresh (by assumption) (by assumption)).symm)).trans (by first | assumption | exact xu_s _ _ _ | exact (xu_n (by first | assumption | exact Ne.symm (by assumption) | exact xu_fresh (by assumption) (by assumption) | exact (xu_fresh (by assumption) (by assumption)).symm)).trans (by first | assumption | exact xu_s _ _ _ | exact (xu_n (by first | assumption | exact Ne.symm (by assumption) | exact xu_fresh (by assumption) (by assumption) | exact (xu_fresh (by assumption) (by assumption)).symm)).trans (by first | assumption | exact xu_s _ _ _))))) (fun v_ h hq_ => ?_)
  obtain ⟨hv_, rfl⟩ := hq_; cases hv_
  refine x_ialdN (M := mX8_isHidden) (pc := 9) _ dX8_isHidden_9 (by first | assumption | exact xu_s _ _ _ | exact (xu_n (by first | assumption | exact Ne.symm (by assumption) | exact xu_fresh (by assumption) (by assumption) | exact (xu_fresh (by assumption) (by assumption)).symm)).trans (by first | assumption | exact xu_s _ _ _ | exact (xu_n (by first | assumption | exact Ne.symm (by assumption) | exact xu_fresh (by assumption) (by assumption) | exact (xu_fresh (by assumption) (by assumption)).symm)).trans (by first | assumption | exact xu_s _ _ _ | exact (xu_n (by first | assumption | exact Ne.symm (by assumption) | exact xu_fresh (by assumption) (by assumption) | exact (xu_fresh (by assumption) (by assumption)).symm)).trans (by first | assumption | exact xu_s _ _ _)))) (by first | rfl | assumption) (by first | assumption | omega) (by first | decide | omega) ?_
  refine x_val (M := mX8_isHidden) (pc := 10) (hs2 _ (by omega)) ?_
  first | with_reducible refine x_ifB_eq (M := mX8_isHidden) (pc := 10) 17 dX8_isHidden_10 (by decide) (fun c10 => ?_) (fun c10 => ?_) | with_reducible refine x_if_eqN (M := mX8_isHidden) (pc := 10) 17 dX8_isHidden_10 (by decide) (by omega) (fun c10 => ?_) (fun c10 => ?_) | refine x_if_eq (M := mX8_isHidden) (pc := 10) 17 dX8_isHidden_10 (by decide) (fun c10 => ?_) (fun c10 => ?_)
  · refine x_iconst (M := mX8_isHidden) (pc := 17) (v := nI 0) dX8_isHidden_17 (by decide) ?_
    refine x_zret (M := mX8_isHidden) (pc := 18) dX8_isHidden_18 rfl (by first | with_reducible exact xz0 | with_reducible exact xz1 | with_reducible exact bI_01 _ | with_reducible assumption | assumption) (by first | exact Nat.le_of_ble_eq_true rfl | omega) (by first | exact Nat.le_of_ble_eq_true rfl | omega) ?_
    refine ⟨congrArg Sum.inl ?_, rfl⟩; first | exact vB1 (by unfold bHid; simp [*]) | exact vB0 (by unfold bHid; simp [*])
  · refine x_iconst (M := mX8_isHidden) (pc := 13) (v := nI 1) dX8_isHidden_13 (by decide) ?_
    refine x_goto (M := mX8_isHidden) (pc := 14) 18 dX8_isHidden_14 (by decide) ?_
    refine x_zret (M := mX8_isHidden) (pc := 18) dX8_isHidden_18 rfl (by first | with_reducible exact xz0 | with_reducible exact xz1 | with_reducible exact bI_01 _ | with_reducible assumption | assumption) (by first | exact Nat.le_of_ble_eq_true rfl | omega) (by first | exact Nat.le_of_ble_eq_true rfl | omega) ?_
    refine ⟨congrArg Sum.inl ?_, rfl⟩; first | exact vB1 (by unfold bHid; simp [*]) | exact vB0 (by unfold bHid; simp [*])
/-- why a page isn't read -/
def bWhy (s : Row) (ly : Nat → Lay) (pg : Nat) : Nat := if bHid s ly pg then 1 else if s (90 + p_sd ly pg) < 0 then 2 else if s (90 + p_sd ly pg) ≠ nI pg then 3 else if p_tn ly (zN s 7) pg == zTu s (p_sd ly pg) then 0 else 4
theorem zNone_or {s : Row} (hW : WF s) {k : Nat} (hk : k < 32) : (s (90 + k) < 0 ∧ zNone (s (90 + k)) = -9) ∨ (∃ m, m < 32 ∧ s (90 + k) = nI m ∧ ¬ s (90 + k) < 0 ∧ zNone (s (90 + k)) = nI m) := by
  rcases (hW.2.2.2.2.2.2.2.2.2.2 k hk).1 with e | ⟨e, h2⟩
  · left; rw [e]; exact ⟨by decide, by decide⟩
  · right
    have : ¬ s (90 + k) < 0 := by rw [e]; exact nI_pos (by omega)
    exact ⟨_, h2, e, this, by unfold zNone; rw [if_neg this]; exact e⟩
theorem neg9 {m : Nat} (hm : m < 2 ^ 31) : (-9 : Int32) ≠ nI m := fun e => absurd (show (-9 : Int32) < 0 by decide) (by rw [e]; exact nI_pos hm)
theorem c_reason (h : xH) (bk sh pg d : Nat) (hd : 4 ≤ d) (s : Row) (ly : Nat → Lay) (hB : BS g h bk sh s ly) (hpg : pg < 2 * (zHi s * zWi s)) : Ct g l mX8_reasonAgainst d 0 0 [.ref bk, .int (nI pg)] h (fun o h' => o = .inl (some (.int (nI (bWhy s ly pg)))) ∧ h' = h) := by
  have hB0 := hB
  obtain ⟨P, sx, sy, La, xs, J, ⟨lv, jl, ja, cap, sb, hbk, ⟨f, hlv, hf⟩, hly, hJO, hsb⟩, hS, hW, hp, hper, hJ32⟩ := hB
  have hb := hW.b
  have hlt := p_sd_lt (s := s) hpg (fun t ht => (hper t ht).1)
  refine Ct.of [some (.ref bk), some (.int (nI pg)), none] (by decide +kernel) rfl (Nat.le_of_ble_eq_true rfl) rfl rfl ?_
  refine x_aload_n (M := mX8_reasonAgainst) (pc := 0) dX8_reasonAgainst_0 rfl ?_
  refine x_iload_n (M := mX8_reasonAgainst) (pc := 1) dX8_reasonAgainst_1 rfl ?_
  refine x_V1 (M := mX8_reasonAgainst) (pc := 2) (M' := mX8_numberOn) q2068 kVX8_numberOn dX8_reasonAgainst_2 (c_numberOn h bk sh pg (d - 1) (by omega) s ly hB0 hpg) (xIs.of kcX8 (by first | assumption | exact xu_s _ _ _ | exact (xu_n (by first | assumption | exact Ne.symm (by assumption) | exact xu_fresh (by assumption) (by assumption) | exact (xu_fresh (by assumption) (by assumption)).symm)).trans (by first | assumption | exact xu_s _ _ _ | exact (xu_n (by first | assumption | exact Ne.symm (by assumption) | exact xu_fresh (by assumption) (by assumption) | exact (xu_fresh (by assumption) (by assumption)).symm)).trans (by first | assumption | exact xu_s _ _ _ | exact (xu_n (by first | assumption | exact Ne.symm (by assumption) | exact xu_fresh (by assumption) (by assumption) | exact (xu_fresh (by assumption) (by assumption)).symm)).trans (by first | assumption | exact xu_s _ _ _))))) (fun v_ h hq_ => ?_)
  obtain ⟨hv_, rfl⟩ := hq_; cases hv_
  rotate_left
  rcases zNone_or hW (k := p_sd ly pg) (by omega) with ⟨z1, z2⟩ | ⟨m, z0, z1, z2, z3⟩
  · rw [z2]
    refine x_istore2 (M := mX8_reasonAgainst) (pc := 5) dX8_reasonAgainst_5 ?_
    refine x_aload_n (M := mX8_reasonAgainst) (pc := 6) dX8_reasonAgainst_6 rfl ?_
    refine x_iload_n (M := mX8_reasonAgainst) (pc := 7) dX8_reasonAgainst_7 rfl ?_
    refine x_V1 (M := mX8_reasonAgainst) (pc := 8) (M' := mX8_isHidden) q2069 kVX8_isHidden dX8_reasonAgainst_8 (c_isHiddenB h bk sh pg (d - 1) (by omega) s ly hB0 hpg) (xIs.of kcX8 (by first | assumption | exact xu_s _ _ _ | exact (xu_n (by first | assumption | exact Ne.symm (by assumption) | exact xu_fresh (by assumption) (by assumption) | exact (xu_fresh (by assumption) (by assumption)).symm)).trans (by first | assumption | exact xu_s _ _ _ | exact (xu_n (by first | assumption | exact Ne.symm (by assumption) | exact xu_fresh (by assumption) (by assumption) | exact (xu_fresh (by assumption) (by assumption)).symm)).trans (by first | assumption | exact xu_s _ _ _ | exact (xu_n (by first | assumption | exact Ne.symm (by assumption) | exact xu_fresh (by assumption) (by assumption) | exact (xu_fresh (by assumption) (by assumption)).symm)).trans (by first | assumption | exact xu_s _ _ _))))) (fun v_ h hq_ => ?_)
    obtain ⟨hv_, rfl⟩ := hq_; cases hv_
    first | with_reducible refine x_ifB_eq (M := mX8_reasonAgainst) (pc := 11) 16 dX8_reasonAgainst_11 (by decide) (fun c11 => ?_) (fun c11 => ?_) | with_reducible refine x_if_eqN (M := mX8_reasonAgainst) (pc := 11) 16 dX8_reasonAgainst_11 (by decide) (by omega) (fun c11 => ?_) (fun c11 => ?_) | refine x_if_eq (M := mX8_reasonAgainst) (pc := 11) 16 dX8_reasonAgainst_11 (by decide) (fun c11 => ?_) (fun c11 => ?_)
    · refine x_iload_n (M := mX8_reasonAgainst) (pc := 16) dX8_reasonAgainst_16 rfl ?_
      refine x_bipush (M := mX8_reasonAgainst) (pc := 17) (v := (-9)) dX8_reasonAgainst_17 (by decide) ?_
      refine x_icmp_ne (M := mX8_reasonAgainst) (pc := 19) 24 dX8_reasonAgainst_19 (by decide) (fun r_c => ?_) (fun r_c => ?_)
      · exact absurd rfl r_c
      · refine x_iconst (M := mX8_reasonAgainst) (pc := 22) (v := nI 2) dX8_reasonAgainst_22 (by decide) ?_
        refine x_iret (M := mX8_reasonAgainst) (pc := 23) dX8_reasonAgainst_23 rfl (by first | exact Nat.le_of_ble_eq_true rfl | omega) (by first | exact Nat.le_of_ble_eq_true rfl | omega) ?_
        exact ⟨by simp [bWhy, c11, z1], rfl⟩
    · refine x_iconst (M := mX8_reasonAgainst) (pc := 14) (v := nI 1) dX8_reasonAgainst_14 (by decide) ?_
      refine x_iret (M := mX8_reasonAgainst) (pc := 15) dX8_reasonAgainst_15 rfl (by first | exact Nat.le_of_ble_eq_true rfl | omega) (by first | exact Nat.le_of_ble_eq_true rfl | omega) ?_
      exact ⟨by simp [bWhy, c11], rfl⟩
  · rw [z3]
    refine x_istore2 (M := mX8_reasonAgainst) (pc := 5) dX8_reasonAgainst_5 ?_
    refine x_aload_n (M := mX8_reasonAgainst) (pc := 6) dX8_reasonAgainst_6 rfl ?_
    refine x_iload_n (M := mX8_reasonAgainst) (pc := 7) dX8_reasonAgainst_7 rfl ?_
    refine x_V1 (M := mX8_reasonAgainst) (pc := 8) (M' := mX8_isHidden) q2069 kVX8_isHidden dX8_reasonAgainst_8 (c_isHiddenB h bk sh pg (d - 1) (by omega) s ly hB0 hpg) (xIs.of kcX8 (by first | assumption | exact xu_s _ _ _ | exact (xu_n (by first | assumption | exact Ne.symm (by assumption) | exact xu_fresh (by assumption) (by assumption) | exact (xu_fresh (by assumption) (by assumption)).symm)).trans (by first | assumption | exact xu_s _ _ _ | exact (xu_n (by first | assumption | exact Ne.symm (by assumption) | exact xu_fresh (by assumption) (by assumption) | exact (xu_fresh (by assumption) (by assumption)).symm)).trans (by first | assumption | exact xu_s _ _ _ | exact (xu_n (by first | assumption | exact Ne.symm (by assumption) | exact xu_fresh (by assumption) (by assumption) | exact (xu_fresh (by assumption) (by assumption)).symm)).trans (by first | assumption | exact xu_s _ _ _))))) (fun v_ h hq_ => ?_)
    obtain ⟨hv_, rfl⟩ := hq_; cases hv_
    first | with_reducible refine x_ifB_eq (M := mX8_reasonAgainst) (pc := 11) 16 dX8_reasonAgainst_11 (by decide) (fun c11 => ?_) (fun c11 => ?_) | with_reducible refine x_if_eqN (M := mX8_reasonAgainst) (pc := 11) 16 dX8_reasonAgainst_11 (by decide) (by omega) (fun c11 => ?_) (fun c11 => ?_) | refine x_if_eq (M := mX8_reasonAgainst) (pc := 11) 16 dX8_reasonAgainst_11 (by decide) (fun c11 => ?_) (fun c11 => ?_)
    refine x_iload_n (M := mX8_reasonAgainst) (pc := 16) dX8_reasonAgainst_16 rfl ?_
    refine x_bipush (M := mX8_reasonAgainst) (pc := 17) (v := (-9)) dX8_reasonAgainst_17 (by decide) ?_
    refine x_icmp_ne (M := mX8_reasonAgainst) (pc := 19) 24 dX8_reasonAgainst_19 (by decide) (fun r_c => ?_) (fun r_c => ?_)
    refine x_iload_n (M := mX8_reasonAgainst) (pc := 24) dX8_reasonAgainst_24 rfl ?_
    refine x_iload_n (M := mX8_reasonAgainst) (pc := 25) dX8_reasonAgainst_25 rfl ?_
    first | with_reducible refine x_icmp_eqN (M := mX8_reasonAgainst) (pc := 26) 33 dX8_reasonAgainst_26 (by decide) (by omega) (by omega) (fun c26 => ?_) (fun c26 => ?_) | refine x_icmp_eq (M := mX8_reasonAgainst) (pc := 26) 33 dX8_reasonAgainst_26 (by decide) (fun c26 => ?_) (fun c26 => ?_)
    refine x_aload_n (M := mX8_reasonAgainst) (pc := 33) dX8_reasonAgainst_33 rfl ?_
    refine x_iload_n (M := mX8_reasonAgainst) (pc := 34) dX8_reasonAgainst_34 rfl ?_
    refine x_V1 (M := mX8_reasonAgainst) (pc := 35) (M' := mX8_isUpright) q2070 kVX8_isUpright dX8_reasonAgainst_35 (c_isUprightB h bk sh pg (d - 1) (by omega) s ly hB0 hpg) (xIs.of kcX8 (by first | assumption | exact xu_s _ _ _ | exact (xu_n (by first | assumption | exact Ne.symm (by assumption) | exact xu_fresh (by assumption) (by assumption) | exact (xu_fresh (by assumption) (by assumption)).symm)).trans (by first | assumption | exact xu_s _ _ _ | exact (xu_n (by first | assumption | exact Ne.symm (by assumption) | exact xu_fresh (by assumption) (by assumption) | exact (xu_fresh (by assumption) (by assumption)).symm)).trans (by first | assumption | exact xu_s _ _ _ | exact (xu_n (by first | assumption | exact Ne.symm (by assumption) | exact xu_fresh (by assumption) (by assumption) | exact (xu_fresh (by assumption) (by assumption)).symm)).trans (by first | assumption | exact xu_s _ _ _))))) (fun v_ h hq_ => ?_)
    obtain ⟨hv_, rfl⟩ := hq_; cases hv_
    first | with_reducible refine x_ifB_eq (M := mX8_reasonAgainst) (pc := 38) 45 dX8_reasonAgainst_38 (by decide) (fun c38 => ?_) (fun c38 => ?_) | with_reducible refine x_if_eqN (M := mX8_reasonAgainst) (pc := 38) 45 dX8_reasonAgainst_38 (by decide) (by omega) (fun c38 => ?_) (fun c38 => ?_) | refine x_if_eq (M := mX8_reasonAgainst) (pc := 38) 45 dX8_reasonAgainst_38 (by decide) (fun c38 => ?_) (fun c38 => ?_)
    refine x_iconst (M := mX8_reasonAgainst) (pc := 45) (v := nI 4) dX8_reasonAgainst_45 (by decide) ?_
    rotate_left
    refine x_iconst (M := mX8_reasonAgainst) (pc := 41) (v := nI 0) dX8_reasonAgainst_41 (by decide) ?_
    refine x_goto (M := mX8_reasonAgainst) (pc := 42) 46 dX8_reasonAgainst_42 (by decide) ?_
    rotate_left
    refine x_iconst (M := mX8_reasonAgainst) (pc := 29) (v := nI 3) dX8_reasonAgainst_29 (by decide) ?_
    refine x_goto (M := mX8_reasonAgainst) (pc := 30) 46 dX8_reasonAgainst_30 (by decide) ?_
    rotate_left
    exact absurd (Eq.symm r_c) (neg9 (by omega))
    refine x_iconst (M := mX8_reasonAgainst) (pc := 14) (v := nI 1) dX8_reasonAgainst_14 (by decide) ?_
    refine x_iret (M := mX8_reasonAgainst) (pc := 15) dX8_reasonAgainst_15 rfl (by first | exact Nat.le_of_ble_eq_true rfl | omega) (by first | exact Nat.le_of_ble_eq_true rfl | omega) ?_
    exact ⟨by simp [bWhy, c11], rfl⟩
    · refine x_iret (M := mX8_reasonAgainst) (pc := 46) dX8_reasonAgainst_46 rfl (by first | exact Nat.le_of_ble_eq_true rfl | omega) (by first | exact Nat.le_of_ble_eq_true rfl | omega) ?_
      refine ⟨?_, rfl⟩
      subst c26
      unfold bWhy
      rw [c11, if_neg (by decide), if_neg z2, if_neg (by rw [z1]; simp), c38]; rfl
    · refine x_iret (M := mX8_reasonAgainst) (pc := 46) dX8_reasonAgainst_46 rfl (by first | exact Nat.le_of_ble_eq_true rfl | omega) (by first | exact Nat.le_of_ble_eq_true rfl | omega) ?_
      refine ⟨?_, rfl⟩
      subst c26
      unfold bWhy
      rw [c11, if_neg (by decide), if_neg z2, if_neg (by rw [z1]; simp), c38]; rfl
    · refine x_iret (M := mX8_reasonAgainst) (pc := 46) dX8_reasonAgainst_46 rfl (by first | exact Nat.le_of_ble_eq_true rfl | omega) (by first | exact Nat.le_of_ble_eq_true rfl | omega) ?_
      refine ⟨?_, rfl⟩
      unfold bWhy
      rw [c11, if_neg (by decide), if_neg z2, if_pos (by rw [z1]; exact fun e => c26 ((nI_eq (by omega) (by omega)).mp e))]
theorem j_readsL (h : xH) (bk sh d : Nat) (hd : 5 ≤ d) (s : Row) (ly : Nat → Lay) (hB : BS g h bk sh s ly) (Q : xO → xH → Prop) (r : Nat) (hE : Q (.inl (some (.int (nI r)))) h) : ∀ q k, k + q = 2 * (zHi s * zWi s) → fstN (fun pg => decide (bWhy s ly pg ≠ 0)) q k = r → X g l mX8_readsTo d 0 0 Q 2 [some (.ref bk), some (.int (nI k))] [] h 0 0 := by
  have hb := hB.wf.b
  intro q
  induction q with
  | zero =>
    intro k hk hr
    subst hr
    refine x_iload_n (M := mX8_readsTo) (pc := 2) dX8_readsTo_2 rfl ?_
    refine x_aload_n (M := mX8_readsTo) (pc := 3) dX8_readsTo_3 rfl ?_
    refine x_V0 (M := mX8_readsTo) (pc := 4) (M' := mX8_pages) q1281 kVX8_pages dX8_readsTo_4 (c_pages h bk sh (d - 1) s ly hB) (hB.is) (fun v_ h hq_ => ?_)
    obtain ⟨hv_, rfl⟩ := hq_; cases hv_
    first | with_reducible refine x_icmp_geN (M := mX8_readsTo) (pc := 7) 24 dX8_readsTo_7 (by decide) (by omega) (by omega) (fun c7 => ?_) (fun c7 => ?_) | refine x_icmp_ge (M := mX8_readsTo) (pc := 7) 24 dX8_readsTo_7 (by decide) (fun c7 => ?_) (fun c7 => ?_)
    · refine x_iload_n (M := mX8_readsTo) (pc := 24) dX8_readsTo_24 rfl ?_
      refine x_iret (M := mX8_readsTo) (pc := 25) dX8_readsTo_25 rfl (by first | exact Nat.le_of_ble_eq_true rfl | omega) (by first | exact Nat.le_of_ble_eq_true rfl | omega) ?_
      exact hE
    · omega
  | succ q ih =>
    intro k hk hr
    have hw : bWhy s ly k < 5 := by unfold bWhy; (repeat' split) <;> omega
    unfold fstN at hr
    refine x_iload_n (M := mX8_readsTo) (pc := 2) dX8_readsTo_2 rfl ?_
    refine x_aload_n (M := mX8_readsTo) (pc := 3) dX8_readsTo_3 rfl ?_
    refine x_V0 (M := mX8_readsTo) (pc := 4) (M' := mX8_pages) q1281 kVX8_pages dX8_readsTo_4 (c_pages h bk sh (d - 1) s ly hB) (hB.is) (fun v_ h hq_ => ?_)
    obtain ⟨hv_, rfl⟩ := hq_; cases hv_
    first | with_reducible refine x_icmp_geN (M := mX8_readsTo) (pc := 7) 24 dX8_readsTo_7 (by decide) (by omega) (by omega) (fun c7 => ?_) (fun c7 => ?_) | refine x_icmp_ge (M := mX8_readsTo) (pc := 7) 24 dX8_readsTo_7 (by decide) (fun c7 => ?_) (fun c7 => ?_)
    omega
    refine x_aload_n (M := mX8_readsTo) (pc := 10) dX8_readsTo_10 rfl ?_
    refine x_iload_n (M := mX8_readsTo) (pc := 11) dX8_readsTo_11 rfl ?_
    refine x_V1 (M := mX8_readsTo) (pc := 12) (M' := mX8_reasonAgainst) q2665 kVX8_reasonAgainst dX8_readsTo_12 (c_reason h bk sh k (d - 1) (by omega) s ly hB (by omega)) (hB.is) (fun v_ h hq_ => ?_)
    obtain ⟨hv_, rfl⟩ := hq_; cases hv_
    first | with_reducible refine x_ifB_ne (M := mX8_readsTo) (pc := 15) 24 dX8_readsTo_15 (by decide) (fun c15 => ?_) (fun c15 => ?_) | with_reducible refine x_if_neN (M := mX8_readsTo) (pc := 15) 24 dX8_readsTo_15 (by decide) (by omega) (fun c15 => ?_) (fun c15 => ?_) | refine x_if_ne (M := mX8_readsTo) (pc := 15) 24 dX8_readsTo_15 (by decide) (fun c15 => ?_) (fun c15 => ?_)
    rotate_left
    rotate_left
    · rw [if_pos (by simp [c15])] at hr
      subst hr
      refine x_iload_n (M := mX8_readsTo) (pc := 24) dX8_readsTo_24 rfl ?_
      refine x_iret (M := mX8_readsTo) (pc := 25) dX8_readsTo_25 rfl (by first | exact Nat.le_of_ble_eq_true rfl | omega) (by first | exact Nat.le_of_ble_eq_true rfl | omega) ?_
      exact hE
    · rw [if_neg (by simp [c15])] at hr
      first | refine x_iinc1N (M := mX8_readsTo) (pc := 18) (c := 1) dX8_readsTo_18 oI1 ?_ | refine x_iinc1 (M := mX8_readsTo) (pc := 18) (c := 1) dX8_readsTo_18 (by decide) ?_
      refine x_goto (M := mX8_readsTo) (pc := 21) 2 dX8_readsTo_21 (by decide) ?_
      exact ih (k + 1) (by omega) hr
theorem c_readsTo (h : xH) (bk sh d : Nat) (hd : 5 ≤ d) (s : Row) (ly : Nat → Lay) (hB : BS g h bk sh s ly) : Ct g l mX8_readsTo d 0 0 [.ref bk] h (fun o h' => o = .inl (some (.int (nI (fstN (fun pg => decide (bWhy s ly pg ≠ 0)) (2 * (zHi s * zWi s)) 0)))) ∧ h' = h) := by
  refine Ct.of [some (.ref bk), none] (by decide +kernel) rfl (Nat.le_of_ble_eq_true rfl) rfl rfl ?_
  refine x_iconst (M := mX8_readsTo) (pc := 0) (v := nI 0) dX8_readsTo_0 (by decide) ?_
  refine x_istore1 (M := mX8_readsTo) (pc := 1) dX8_readsTo_1 ?_
  exact j_readsL h bk sh d hd s ly hB _ _ ⟨rfl, rfl⟩ _ 0 (by omega) rfl
def bOwn (s : Row) (ly : Nat → Lay) (pg : Nat) : Bool := decide (s (90 + p_sd ly pg) = nI pg) && (p_tn ly (zN s 7) pg == zTu s (p_sd ly pg))
theorem j_ownL (h : xH) (bk sh d : Nat) (hd : 5 ≤ d) (s : Row) (ly : Nat → Lay) (hB : BS g h bk sh s ly) (Q : xO → xH → Prop) (r : Nat) (hE : Q (.inl (some (.int (nI r)))) h) : ∀ q k, k + q = 2 * (zHi s * zWi s) → fstN (fun pg => !bOwn s ly pg) q k = r → X g l mX8_ownNumbers d 0 0 Q 2 [some (.ref bk), some (.int (nI k))] [] h 0 0 := by
  have hW := hB.wf
  have hb := hW.b
  have hper : ∀ t, t < zHi s * zWi s → (ly t).1 < zHi s * zWi s := by
    obtain ⟨P, sx, sy, La, xs, J, _, hS, _, hp, hper, hJ32⟩ := hB
    exact fun t ht => (hper t ht).1
  intro q
  induction q with
  | zero =>
    intro k hk hr
    subst hr
    refine x_iload_n (M := mX8_ownNumbers) (pc := 2) dX8_ownNumbers_2 rfl ?_
    refine x_aload_n (M := mX8_ownNumbers) (pc := 3) dX8_ownNumbers_3 rfl ?_
    refine x_V0 (M := mX8_ownNumbers) (pc := 4) (M' := mX8_pages) q1281 kVX8_pages dX8_ownNumbers_4 (c_pages h bk sh (d - 1) s ly hB) (hB.is) (fun v_ h hq_ => ?_)
    obtain ⟨hv_, rfl⟩ := hq_; cases hv_
    first | with_reducible refine x_icmp_geN (M := mX8_ownNumbers) (pc := 7) 33 dX8_ownNumbers_7 (by decide) (by omega) (by omega) (fun c7 => ?_) (fun c7 => ?_) | refine x_icmp_ge (M := mX8_ownNumbers) (pc := 7) 33 dX8_ownNumbers_7 (by decide) (fun c7 => ?_) (fun c7 => ?_)
    · refine x_iload_n (M := mX8_ownNumbers) (pc := 33) dX8_ownNumbers_33 rfl ?_
      refine x_iret (M := mX8_ownNumbers) (pc := 34) dX8_ownNumbers_34 rfl (by first | exact Nat.le_of_ble_eq_true rfl | omega) (by first | exact Nat.le_of_ble_eq_true rfl | omega) ?_
      exact hE
    · omega
  | succ q ih =>
    intro k hk hr
    have hlt := p_sd_lt (s := s) (pg := k) (by omega) hper
    unfold fstN at hr
    refine x_iload_n (M := mX8_ownNumbers) (pc := 2) dX8_ownNumbers_2 rfl ?_
    refine x_aload_n (M := mX8_ownNumbers) (pc := 3) dX8_ownNumbers_3 rfl ?_
    refine x_V0 (M := mX8_ownNumbers) (pc := 4) (M' := mX8_pages) q1281 kVX8_pages dX8_ownNumbers_4 (c_pages h bk sh (d - 1) s ly hB) (hB.is) (fun v_ h hq_ => ?_)
    obtain ⟨hv_, rfl⟩ := hq_; cases hv_
    first | with_reducible refine x_icmp_geN (M := mX8_ownNumbers) (pc := 7) 33 dX8_ownNumbers_7 (by decide) (by omega) (by omega) (fun c7 => ?_) (fun c7 => ?_) | refine x_icmp_ge (M := mX8_ownNumbers) (pc := 7) 33 dX8_ownNumbers_7 (by decide) (fun c7 => ?_) (fun c7 => ?_)
    omega
    refine x_aload_n (M := mX8_ownNumbers) (pc := 10) dX8_ownNumbers_10 rfl ?_
    refine x_iload_n (M := mX8_ownNumbers) (pc := 11) dX8_ownNumbers_11 rfl ?_
    refine x_V1 (M := mX8_ownNumbers) (pc := 12) (M' := mX8_numberOn) q2068 kVX8_numberOn dX8_ownNumbers_12 (c_numberOn h bk sh k (d - 1) (by omega) s ly hB (by omega)) (hB.is) (fun v_ h hq_ => ?_)
    obtain ⟨hv_, rfl⟩ := hq_; cases hv_
    rotate_left
    have hz : zNone (s (90 + p_sd ly k)) = nI k ↔ s (90 + p_sd ly k) = nI k := by
      rcases zNone_or hW (k := p_sd ly k) (by omega) with ⟨z1, z2⟩ | ⟨m, z0, z1, z2, z3⟩
      · rw [z2]; exact ⟨fun e => absurd e (neg9 (by omega)), fun e => absurd z1 (by rw [e]; exact nI_pos (by omega))⟩
      · rw [z3, z1]
    refine x_iload_n (M := mX8_ownNumbers) (pc := 15) dX8_ownNumbers_15 rfl ?_
    refine x_icmp_ne (M := mX8_ownNumbers) (pc := 16) 33 dX8_ownNumbers_16 (by decide) (fun r_c => ?_) (fun r_c => ?_)
    rotate_left
    refine x_aload_n (M := mX8_ownNumbers) (pc := 19) dX8_ownNumbers_19 rfl ?_
    refine x_iload_n (M := mX8_ownNumbers) (pc := 20) dX8_ownNumbers_20 rfl ?_
    refine x_V1 (M := mX8_ownNumbers) (pc := 21) (M' := mX8_isUpright) q2070 kVX8_isUpright dX8_ownNumbers_21 (c_isUprightB h bk sh k (d - 1) (by omega) s ly hB (by omega)) (hB.is) (fun v_ h hq_ => ?_)
    obtain ⟨hv_, rfl⟩ := hq_; cases hv_
    first | with_reducible refine x_ifB_eq (M := mX8_ownNumbers) (pc := 24) 33 dX8_ownNumbers_24 (by decide) (fun c24 => ?_) (fun c24 => ?_) | with_reducible refine x_if_eqN (M := mX8_ownNumbers) (pc := 24) 33 dX8_ownNumbers_24 (by decide) (by omega) (fun c24 => ?_) (fun c24 => ?_) | refine x_if_eq (M := mX8_ownNumbers) (pc := 24) 33 dX8_ownNumbers_24 (by decide) (fun c24 => ?_) (fun c24 => ?_)
    rotate_left
    rotate_left
    · rw [if_pos (by simp [bOwn, mt hz.mpr r_c])] at hr
      subst hr
      refine x_iload_n (M := mX8_ownNumbers) (pc := 33) dX8_ownNumbers_33 rfl ?_
      refine x_iret (M := mX8_ownNumbers) (pc := 34) dX8_ownNumbers_34 rfl (by first | exact Nat.le_of_ble_eq_true rfl | omega) (by first | exact Nat.le_of_ble_eq_true rfl | omega) ?_
      exact hE
    · rw [if_pos (by simp [bOwn, c24])] at hr
      subst hr
      refine x_iload_n (M := mX8_ownNumbers) (pc := 33) dX8_ownNumbers_33 rfl ?_
      refine x_iret (M := mX8_ownNumbers) (pc := 34) dX8_ownNumbers_34 rfl (by first | exact Nat.le_of_ble_eq_true rfl | omega) (by first | exact Nat.le_of_ble_eq_true rfl | omega) ?_
      exact hE
    · have r_c' : zNone (s (90 + p_sd ly k)) = nI k := by simpa using r_c
      rw [if_neg (by simp [bOwn, c24, hz.mp r_c'])] at hr
      first | refine x_iinc1N (M := mX8_ownNumbers) (pc := 27) (c := 1) dX8_ownNumbers_27 oI1 ?_ | refine x_iinc1 (M := mX8_ownNumbers) (pc := 27) (c := 1) dX8_ownNumbers_27 (by decide) ?_
      refine x_goto (M := mX8_ownNumbers) (pc := 30) 2 dX8_ownNumbers_30 (by decide) ?_
      exact ih (k + 1) (by omega) hr
theorem c_ownNumbers (h : xH) (bk sh d : Nat) (hd : 5 ≤ d) (s : Row) (ly : Nat → Lay) (hB : BS g h bk sh s ly) : Ct g l mX8_ownNumbers d 0 0 [.ref bk] h (fun o h' => o = .inl (some (.int (nI (fstN (fun pg => !bOwn s ly pg) (2 * (zHi s * zWi s)) 0)))) ∧ h' = h) := by
  refine Ct.of [some (.ref bk), none] (by decide +kernel) rfl (Nat.le_of_ble_eq_true rfl) rfl rfl ?_
  refine x_iconst (M := mX8_ownNumbers) (pc := 0) (v := nI 0) dX8_ownNumbers_0 (by decide) ?_
  refine x_istore1 (M := mX8_ownNumbers) (pc := 1) dX8_ownNumbers_1 ?_
  exact j_ownL h bk sh d hd s ly hB _ _ ⟨rfl, rfl⟩ _ 0 (by omega) rfl
end BKREAD

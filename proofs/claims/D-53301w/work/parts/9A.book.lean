/-! booklets are made -/
section BOOK
set_option maxRecDepth 100000
variable {g : xG} {l : Launch} {h h0 h' : xH}
theorem bk_done {h h2 h3 : xH} {bk sh fo n : Nat} {F : Nat → Nat} {e : va_E} {P : Nat → Nat} {s : Row} {sx sy : List Nat} {La : Nat → Nat} {xs : List Nat} (hq : h bk = none) (hF : FDN g (xu h bk e) h2 fo (zHi s) (zWi s) F n) (hS : SHP g h sh P s sx sy) (hW : WF s) (hcs : p_cans (zHi s) (zWi s) F n = true) (h2n : 2 ^ n = zHi s * zWi s)
    (hB : BKL g h3 bk sh s (p_layn (zHi s) (zWi s) F n).2.2.2 La xs (jL (zHi s) (zWi s) (p_layn (zHi s) (zWi s) F n).2.2.2 (lfA (p_layn (zHi s) (zWi s) F n).2.2.2 (zHi s * zWi s)) (zHi s * zWi s))) (hle : xle1 bk h2 h3) : BS g h3 bk sh s (p_layn (zHi s) (zWi s) F n).2.2.2 ∧ xle h h3 := by
  have hb := hW.b
  obtain ⟨hp, hper⟩ := ly_all hW.ok hcs h2n
  have hl : xle h h3 := fun a e ha => hle a e (xu_fresh hq ha) (hF.le a e ((xu_n (xu_fresh hq ha)).trans ha))
  have := jL_len (zHi s) (zWi s) (p_layn (zHi s) (zWi s) F n).2.2.2 (lfA (p_layn (zHi s) (zWi s) F n).2.2.2 (zHi s * zWi s)) (zHi s * zWi s)
  exact ⟨⟨P, sx, sy, La, xs, _, hB, hS.le hl, hW, hp, fun t ht => ⟨(hper t ht).1, (hper t ht).2.1⟩, by omega⟩, hl⟩
theorem c_foldingS (h : xH) (sh d : Nat) (hd : 5 ≤ d) (P : Nat → Nat) (s : Row) (sx sy : List Nat) (hS : SHP g h sh P s sx sy) (hW : WF s) : Ct g l mX2_folding d 70 195 [.ref sh] h (fun o h' => ∃ fo, o = .inl (some (.ref fo)) ∧ FDN g h h' fo (zHi s) (zWi s) (zFo s) (zNf s)) := by
  have hb := hW.b
  obtain ⟨fc, h1, h2⟩ := hS.2.1
  refine c_folding h sh (P 0) (zHi s) (zWi s) (zNf s) d hd (zFo s) fc _ rfl hW.ok hW.1.2.2.2.2.2 hS.1 h1 (fun k hk => ?_)
  rw [h2 k (by omega)]
  exact hW.1.2.2.2.1 k hk
theorem c_booklet (hh : xH) (sh d : Nat) (hd : 11 ≤ d) (P : Nat → Nat) (s : Row) (sx sy : List Nat) (hS : SHP g hh sh P s sx sy) (hW : WF s) (hbk : zBook s = true) : Ct g l mX2_booklet d 138 411 [.ref sh] hh (fun o h' => ∃ bk, o = .inl (some (.ref bk)) ∧ BS g h' bk sh s (zLy s) ∧ xle hh h') := by
  have hb := hW.b
  have h2n : 2 ^ zNf s = zHi s * zWi s := of_decide_eq_true hbk
  refine Ct.of [some (.ref sh)] (by decide +kernel) rfl (Nat.le_of_ble_eq_true rfl) rfl rfl ?_
  refine x_new (M := mX2_booklet) (pc := 0) kcX8 q1126 dX2_booklet_0 (by first | exact Nat.le_of_ble_eq_true rfl | omega) (by first | exact Nat.le_of_ble_eq_true rfl | omega) (fun q0_ hq0_ hb0_ => ?_)
  (try simp only [xu_noneI] at hq0_)
  repeat (obtain ⟨_, hq0_⟩ : _ ∧ _ := hq0_)
  refine x_dup (M := mX2_booklet) (pc := 3) dX2_booklet_3 ?_
  refine x_aload_n (M := mX2_booklet) (pc := 4) dX2_booklet_4 rfl ?_
  refine x_aload_n (M := mX2_booklet) (pc := 5) dX2_booklet_5 rfl ?_
  have hS1 : SHP g (xu hh q0_ (.inr (8, [.null, .null, .null, .null]))) sh P s sx sy := hS.le (xle.fr hq0_)
  refine x_V0 (M := mX2_booklet) (pc := 6) (M' := mX2_folding) q1128 kVX2_folding dX2_booklet_6 (c_foldingS _ sh (d - 1) (by omega) P s sx sy hS1 hW) (hS1.is) (fun v_ h hq_ => ?_)
  obtain ⟨fo, hv_, hF⟩ := hq_; cases hv_
  rotate_left
  have hbk2 := hF.le _ _ (xu_s hh q0_ (.inr (8, [.null, .null, .null, .null])))
  have hS2 := hS1.le hF.le
  refine x_I2 (M := mX2_booklet) (pc := 9) (M' := mX8_init) q1129 kIX8_init dX2_booklet_9 (c_bkInit _ _ q0_ sh fo (zNf s) (d - 1) (zFo s) (by omega) P s hW _ _ _ _ hbk2 hS2.1 hW.1.2.2.2.2.2 h2n hF) (fun v_ h hq_ => ?_)
  obtain ⟨hv_, La, xs, w1, w2⟩ := hq_; cases hv_
  refine x_aret (M := mX2_booklet) (pc := 12) dX2_booklet_12 rfl (by first | exact Or.inl ⟨_, rfl⟩ | exact Or.inr ⟨_, rfl⟩) (by first | exact Nat.le_of_ble_eq_true rfl | omega) (by first | exact Nat.le_of_ble_eq_true rfl | omega) ?_
  skip
  obtain ⟨z1, z2⟩ := bk_done hq0_ hF hS hW hW.1.2.2.2.2.2 h2n w1 w2
  exact ⟨q0_, rfl, z1, z2⟩
theorem isRow_b {hi wi n : Nat} (h : p_isRow hi wi n = true) : n ≤ 9999 ∧ p_cans hi wi (p_dig n) (p_len n) = true ∧ 2 ^ p_len n = hi * wi := by
  simp only [p_isRow, Bool.and_eq_true, decide_eq_true_eq] at h
  exact ⟨h.1.1, h.1.2, h.2⟩
theorem isRowI_n {hi wi : Nat} {v : Int32} (h : p_isRowI hi wi v = true) : ∃ n, v = nI n ∧ n ≤ 9999 ∧ p_isRow hi wi n = true := by
  unfold p_isRowI at h
  rw [Bool.and_eq_true, decide_eq_true_eq] at h
  obtain ⟨n, hn, rfl⟩ := nI_of (Int32.not_lt.mpr h.1)
  rw [nI_clamp hn] at h
  exact ⟨n, rfl, (isRow_b h.2).1, h.2⟩
theorem c_foldedS (h : xH) (sh n d : Nat) (hd : 5 ≤ d) (P : Nat → Nat) (s : Row) (hsh : h sh = some (shE P s)) (hW : WF s) (hn : p_isRow (zHi s) (zWi s) n = true) : Ct g l mX2_foldedBy d 70 195 [.ref sh, .int (nI n)] h (fun o h' => ∃ fo, o = .inl (some (.ref fo)) ∧ FDN g h h' fo (zHi s) (zWi s) (p_dig n) (p_len n)) := by
  obtain ⟨h1, h2, h3⟩ := isRow_b hn
  exact c_foldedBy h sh (zHi s) (zWi s) n d hd h1 _ rfl hW.ok h2 hsh
theorem zBy_n {s : Row} {n : Nat} (hn : n ≤ 9999) : zBy s (nI n) = (p_layn (zHi s) (zWi s) (p_dig n) (p_len n)).2.2.2 := by unfold zBy; rw [nI_clamp (by omega)]
end BOOK

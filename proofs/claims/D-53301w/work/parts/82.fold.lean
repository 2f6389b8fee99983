/-! Folding: a fold -/
section FOLD
set_option maxRecDepth 100000
variable {g : xG} {l : Launch} {h h0 : xH}
theorem c_laid (h : xH) (mA bA ma d : Nat) (hd : 2 ≤ d) (hma : ma ≤ 8) (ac : Bool) (m b ro co : Nat → Nat) (w : Nat → Bool × Bool) (hinj : ∀ i j, i < ma → j < ma → m i = m j → i = j) (hbm : ∀ i j, i < ma → j < ma → b i ≠ m j) (hmA : LA g h mA ma m) (hbA : LA g h bA ma b) (hm : ∀ k, k < ma → h (m k) = some (lyE (ro k) (co k) (w k))) (hb : ∀ k, k < ma → ∃ vs, h (b k) = some (.inr (6, vs))) :
    Ct g l mX5_laid d 1 (2 * ma) [.ref mA, .ref bA, .int (bI ac)] h (fun o h' => ∃ al, o = .inl (some (.ref al)) ∧ h al = none ∧ LA g h' al (2 * ma) (fun k => if k < ma then m (ma - 1 - k) else b (k - ma)) ∧ (∀ k, k < ma → h' (m k) = some (lyE (ro k) (co k) (lyT ac (w k)))) ∧ (∀ q e, (∀ k, k < ma → q ≠ m k) → h q = some e → h' q = some e)) := by
  have hmA0 := hmA
  obtain ⟨fm, hm1, hm2⟩ := hmA
  have hac := bI_01 ac
  refine Ct.of [some (.ref mA), some (.ref bA), some (.int (bI ac)), none, none, none] (by decide +kernel) rfl (Nat.le_of_ble_eq_true rfl) rfl rfl ?_
  refine x_aload_n (M := mX5_laid) (pc := 0) dX5_laid_0 rfl ?_
  refine x_alen (M := mX5_laid) (pc := 1) dX5_laid_1 (by first | assumption | exact xu_s _ _ _ | exact (xu_n (by first | assumption | exact Ne.symm (by assumption) | exact xu_fresh (by assumption) (by assumption) | exact (xu_fresh (by assumption) (by assumption)).symm)).trans (by first | assumption | exact xu_s _ _ _ | exact (xu_n (by first | assumption | exact Ne.symm (by assumption) | exact xu_fresh (by assumption) (by assumption) | exact (xu_fresh (by assumption) (by assumption)).symm)).trans (by first | assumption | exact xu_s _ _ _ | exact (xu_n (by first | assumption | exact Ne.symm (by assumption) | exact xu_fresh (by assumption) (by assumption) | exact (xu_fresh (by assumption) (by assumption)).symm)).trans (by first | assumption | exact xu_s _ _ _)))) rfl ?_
  refine x_istore3 (M := mX5_laid) (pc := 2) dX5_laid_2 ?_
  refine x_iconst (M := mX5_laid) (pc := 3) (v := nI 2) dX5_laid_3 (by decide) ?_
  refine x_iload_n (M := mX5_laid) (pc := 4) dX5_laid_4 rfl ?_
  first | with_reducible refine x_imulN (M := mX5_laid) (pc := 5) dX5_laid_5 ?_ | refine x_imul (M := mX5_laid) (pc := 5) dX5_laid_5 ?_
  refine x_anew (M := mX5_laid) (pc := 6) 4 (2 * ma) (E := "CribBooklet$Layer") q470 q468 dX5_laid_6 rfl (by omega) (by omega) (by omega) (fun al hal hba => ?_)
  refine x_astore4 (M := mX5_laid) (pc := 9) dX5_laid_9 ?_
  refine x_iconst (M := mX5_laid) (pc := 11) (v := nI 0) dX5_laid_11 (by decide) ?_
  refine x_istore5 (M := mX5_laid) (pc := 12) dX5_laid_12 ?_
  rw [Nat.zero_add (2 * ma)]
  refine j_laidL mA bA al ma d (by omega) hma ac m b ro co w hinj hbm hmA0 hbA hm hb hal _ (fun h' q1 q2 q3 => ⟨al, rfl, hal, q1, q2, q3⟩) ma 0 (by omega) (by omega) _ _ (xu_s _ _ _) (fun j hj => absurd hj (by omega)) (fun j hj => ?_) (fun q e hq hz => (xu_n (fun z => by rw [z, hal] at hz; cases hz)).trans hz)
  rw [if_neg (by omega), xu_n (fun z => by have := hm j hj; rw [z, hal] at this; cases this)]
  exact hm j hj
def fmi (f hi wi r c : Nat) : Nat := if f = 1 then r * wi + (wi / 2 - 1 - c) else if f = 2 then r * wi + (wi - 1 - c) else if f = 3 then (hi / 2 - 1 - r) * wi + c else (hi - 1 - r) * wi + c
def fbi (f hi wi r c : Nat) : Nat := if f = 1 then r * wi + (wi / 2 + c) else if f = 2 then r * wi + c else if f = 3 then (hi / 2 + r) * wi + c else r * wi + c
theorem c_isAcross (h : xH) (f d : Nat) (hf : f ≤ 9) : Ct g l mX5_isAcross d 0 0 [.int (nI f)] h (fun o h' => o = .inl (some (.int (bI (decide (f < 3))))) ∧ h' = h) := by
  refine Ct.of [some (.int (nI f))] (by decide +kernel) rfl (Nat.le_of_ble_eq_true rfl) rfl rfl ?_
  refine x_iload_n (M := mX5_isAcross) (pc := 0) dX5_isAcross_0 rfl ?_
  refine x_iconst (M := mX5_isAcross) (pc := 1) (v := nI 3) dX5_isAcross_1 (by decide) ?_
  first | with_reducible refine x_icmp_geN (M := mX5_isAcross) (pc := 2) 9 dX5_isAcross_2 (by decide) (by omega) (by omega) (fun c2 => ?_) (fun c2 => ?_) | refine x_icmp_ge (M := mX5_isAcross) (pc := 2) 9 dX5_isAcross_2 (by decide) (fun c2 => ?_) (fun c2 => ?_)
  · refine x_iconst (M := mX5_isAcross) (pc := 9) (v := nI 0) dX5_isAcross_9 (by decide) ?_
    refine x_zret (M := mX5_isAcross) (pc := 10) dX5_isAcross_10 rfl (by first | with_reducible exact xz0 | with_reducible exact xz1 | with_reducible exact bI_01 _ | with_reducible assumption | assumption) (by first | exact Nat.le_of_ble_eq_true rfl | omega) (by first | exact Nat.le_of_ble_eq_true rfl | omega) ?_
    first | exact ⟨congrArg Sum.inl (rV1 (by omega)), rfl⟩ | exact ⟨congrArg Sum.inl (rV0 (by omega)), rfl⟩
  · refine x_iconst (M := mX5_isAcross) (pc := 5) (v := nI 1) dX5_isAcross_5 (by decide) ?_
    refine x_goto (M := mX5_isAcross) (pc := 6) 10 dX5_isAcross_6 (by decide) ?_
    refine x_zret (M := mX5_isAcross) (pc := 10) dX5_isAcross_10 rfl (by first | with_reducible exact xz0 | with_reducible exact xz1 | with_reducible exact bI_01 _ | with_reducible assumption | assumption) (by first | exact Nat.le_of_ble_eq_true rfl | omega) (by first | exact Nat.le_of_ble_eq_true rfl | omega) ?_
    first | exact ⟨congrArg Sum.inl (rV1 (by omega)), rfl⟩ | exact ⟨congrArg Sum.inl (rV0 (by omega)), rfl⟩
/-- the places: their arrays by pl -/
def PLA (g : xG) (h : xH) (PL n : Nat) (pl : Nat → Nat) : Prop := ∃ f, h PL = some (.inl (xdA g 5, n, .inr (.inr (.inr (.inr f))))) ∧ ∀ p, p < n → f p = some (pl p)
theorem PLA.le {h' : xH} {PL n : Nat} {pl : Nat → Nat} (hl : ∀ e, h PL = some e → h' PL = some e) (hA : PLA g h PL n pl) : PLA g h' PL n pl := by
  obtain ⟨f, h1, h2⟩ := hA; exact ⟨f, hl _ h1, h2⟩
theorem c_placeAt (h : xH) (fo PL hi wi n r c d : Nat) (pl : Nat → Nat) (hfo : h fo = some (.inr (5, [.int (nI hi), .int (nI wi), .ref PL]))) (hP : PLA g h PL n pl) (hn : n ≤ 16) (hrc : r * wi + c < n) : Ct g l mX5_placeAt d 0 0 [.ref fo, .int (nI r), .int (nI c)] h (fun o h' => o = .inl (some (.ref (pl (r * wi + c)))) ∧ h' = h) := by
  obtain ⟨f, hP1, hP2⟩ := hP
  refine Ct.of [some (.ref fo), some (.int (nI r)), some (.int (nI c))] (by decide +kernel) rfl (Nat.le_of_ble_eq_true rfl) rfl rfl ?_
  refine x_aload_n (M := mX5_placeAt) (pc := 0) dX5_placeAt_0 rfl ?_
  refine x_get (M := mX5_placeAt) (pc := 1) kcX5 2 rfl q496 dX5_placeAt_1 (by first | assumption | exact xu_s _ _ _ | exact (xu_n (by first | assumption | exact Ne.symm (by assumption) | exact xu_fresh (by assumption) (by assumption) | exact (xu_fresh (by assumption) (by assumption)).symm)).trans (by first | assumption | exact xu_s _ _ _ | exact (xu_n (by first | assumption | exact Ne.symm (by assumption) | exact xu_fresh (by assumption) (by assumption) | exact (xu_fresh (by assumption) (by assumption)).symm)).trans (by first | assumption | exact xu_s _ _ _ | exact (xu_n (by first | assumption | exact Ne.symm (by assumption) | exact xu_fresh (by assumption) (by assumption) | exact (xu_fresh (by assumption) (by assumption)).symm)).trans (by first | assumption | exact xu_s _ _ _)))) rfl ?_
  refine x_iload_n (M := mX5_placeAt) (pc := 4) dX5_placeAt_4 rfl ?_
  refine x_aload_n (M := mX5_placeAt) (pc := 5) dX5_placeAt_5 rfl ?_
  refine x_get (M := mX5_placeAt) (pc := 6) kcX5 1 rfl q494 dX5_placeAt_6 (by first | assumption | exact xu_s _ _ _ | exact (xu_n (by first | assumption | exact Ne.symm (by assumption) | exact xu_fresh (by assumption) (by assumption) | exact (xu_fresh (by assumption) (by assumption)).symm)).trans (by first | assumption | exact xu_s _ _ _ | exact (xu_n (by first | assumption | exact Ne.symm (by assumption) | exact xu_fresh (by assumption) (by assumption) | exact (xu_fresh (by assumption) (by assumption)).symm)).trans (by first | assumption | exact xu_s _ _ _ | exact (xu_n (by first | assumption | exact Ne.symm (by assumption) | exact xu_fresh (by assumption) (by assumption) | exact (xu_fresh (by assumption) (by assumption)).symm)).trans (by first | assumption | exact xu_s _ _ _)))) rfl ?_
  first | with_reducible refine x_imulN (M := mX5_placeAt) (pc := 9) dX5_placeAt_9 ?_ | refine x_imul (M := mX5_placeAt) (pc := 9) dX5_placeAt_9 ?_
  refine x_iload_n (M := mX5_placeAt) (pc := 10) dX5_placeAt_10 rfl ?_
  first | with_reducible refine x_iaddN (M := mX5_placeAt) (pc := 11) dX5_placeAt_11 ?_ | refine x_iadd (M := mX5_placeAt) (pc := 11) dX5_placeAt_11 ?_
  refine x_aaldN (M := mX5_placeAt) (pc := 12) (v := .ref (pl (r * wi + c))) _ dX5_placeAt_12 hP1 rfl hrc (by omega) (by rw [hP2 _ hrc]; rfl) ?_
  refine x_aret (M := mX5_placeAt) (pc := 13) dX5_placeAt_13 rfl (by first | exact Or.inl ⟨_, rfl⟩ | exact Or.inr ⟨_, rfl⟩) (by first | exact Nat.le_of_ble_eq_true rfl | omega) (by first | exact Nat.le_of_ble_eq_true rfl | omega) ?_
  exact ⟨rfl, rfl⟩
theorem c_canFold (h : xH) (fo hi wi f d : Nat) (v : Value) (hd : 1 ≤ d) (hfo : h fo = some (.inr (5, [.int (nI hi), .int (nI wi), v]))) (hf : f ≤ 9) (h1 : hi ≤ 4) (h2 : wi ≤ 4) : Ct g l mX5_canFold d 0 0 [.ref fo, .int (nI f)] h (fun o h' => o = .inl (some (.int (bI (if f < 3 then decide (1 < wi) else decide (1 < hi))))) ∧ h' = h) := by
  refine Ct.of [some (.ref fo), some (.int (nI f))] (by decide +kernel) rfl (Nat.le_of_ble_eq_true rfl) rfl rfl ?_
  refine x_iload_n (M := mX5_canFold) (pc := 0) dX5_canFold_0 rfl ?_
  refine x_S1 (M := mX5_canFold) (pc := 1) (M' := mX5_isAcross) q509 kSX5_isAcross dX5_canFold_1 (c_isAcross h f (d - 1) hf) (fun v_ h hq_ => ?_)
  obtain ⟨hv_, rfl⟩ := hq_; cases hv_
  skip
  refine x_ifB_eq (M := mX5_canFold) (pc := 4) 23 dX5_canFold_4 (by decide) (fun e => ?_) (fun e => ?_)
  · have e : ¬ f < 3 := by simpa using e
    rw [if_neg e]
    refine x_aload_n (M := mX5_canFold) (pc := 23) dX5_canFold_23 rfl ?_
    refine x_get (M := mX5_canFold) (pc := 24) kcX5 0 rfl q493 dX5_canFold_24 (by first | assumption | exact xu_s _ _ _ | exact (xu_n (by first | assumption | exact Ne.symm (by assumption) | exact xu_fresh (by assumption) (by assumption) | exact (xu_fresh (by assumption) (by assumption)).symm)).trans (by first | assumption | exact xu_s _ _ _ | exact (xu_n (by first | assumption | exact Ne.symm (by assumption) | exact xu_fresh (by assumption) (by assumption) | exact (xu_fresh (by assumption) (by assumption)).symm)).trans (by first | assumption | exact xu_s _ _ _ | exact (xu_n (by first | assumption | exact Ne.symm (by assumption) | exact xu_fresh (by assumption) (by assumption) | exact (xu_fresh (by assumption) (by assumption)).symm)).trans (by first | assumption | exact xu_s _ _ _)))) rfl ?_
    refine x_iconst (M := mX5_canFold) (pc := 27) (v := nI 1) dX5_canFold_27 (by decide) ?_
    first | with_reducible refine x_icmp_leN (M := mX5_canFold) (pc := 28) 35 dX5_canFold_28 (by decide) (by omega) (by omega) (fun c28 => ?_) (fun c28 => ?_) | refine x_icmp_le (M := mX5_canFold) (pc := 28) 35 dX5_canFold_28 (by decide) (fun c28 => ?_) (fun c28 => ?_)
    · refine x_iconst (M := mX5_canFold) (pc := 35) (v := nI 0) dX5_canFold_35 (by decide) ?_
      refine x_zret (M := mX5_canFold) (pc := 36) dX5_canFold_36 rfl (by first | with_reducible exact xz0 | with_reducible exact xz1 | with_reducible exact bI_01 _ | with_reducible assumption | assumption) (by first | exact Nat.le_of_ble_eq_true rfl | omega) (by first | exact Nat.le_of_ble_eq_true rfl | omega) ?_
      first | exact ⟨congrArg Sum.inl (rV1 (by omega)), rfl⟩ | exact ⟨congrArg Sum.inl (rV0 (by omega)), rfl⟩
    · refine x_iconst (M := mX5_canFold) (pc := 31) (v := nI 1) dX5_canFold_31 (by decide) ?_
      refine x_goto (M := mX5_canFold) (pc := 32) 36 dX5_canFold_32 (by decide) ?_
      refine x_zret (M := mX5_canFold) (pc := 36) dX5_canFold_36 rfl (by first | with_reducible exact xz0 | with_reducible exact xz1 | with_reducible exact bI_01 _ | with_reducible assumption | assumption) (by first | exact Nat.le_of_ble_eq_true rfl | omega) (by first | exact Nat.le_of_ble_eq_true rfl | omega) ?_
      first | exact ⟨congrArg Sum.inl (rV1 (by omega)), rfl⟩ | exact ⟨congrArg Sum.inl (rV0 (by omega)), rfl⟩
  · have e : f < 3 := by simpa using e
    rw [if_pos e]
    refine x_aload_n (M := mX5_canFold) (pc := 7) dX5_canFold_7 rfl ?_
    refine x_get (M := mX5_canFold) (pc := 8) kcX5 1 rfl q494 dX5_canFold_8 (by first | assumption | exact xu_s _ _ _ | exact (xu_n (by first | assumption | exact Ne.symm (by assumption) | exact xu_fresh (by assumption) (by assumption) | exact (xu_fresh (by assumption) (by assumption)).symm)).trans (by first | assumption | exact xu_s _ _ _ | exact (xu_n (by first | assumption | exact Ne.symm (by assumption) | exact xu_fresh (by assumption) (by assumption) | exact (xu_fresh (by assumption) (by assumption)).symm)).trans (by first | assumption | exact xu_s _ _ _ | exact (xu_n (by first | assumption | exact Ne.symm (by assumption) | exact xu_fresh (by assumption) (by assumption) | exact (xu_fresh (by assumption) (by assumption)).symm)).trans (by first | assumption | exact xu_s _ _ _)))) rfl ?_
    refine x_iconst (M := mX5_canFold) (pc := 11) (v := nI 1) dX5_canFold_11 (by decide) ?_
    first | with_reducible refine x_icmp_leN (M := mX5_canFold) (pc := 12) 19 dX5_canFold_12 (by decide) (by omega) (by omega) (fun c12 => ?_) (fun c12 => ?_) | refine x_icmp_le (M := mX5_canFold) (pc := 12) 19 dX5_canFold_12 (by decide) (fun c12 => ?_) (fun c12 => ?_)
    · refine x_iconst (M := mX5_canFold) (pc := 19) (v := nI 0) dX5_canFold_19 (by decide) ?_
      refine x_goto (M := mX5_canFold) (pc := 20) 36 dX5_canFold_20 (by decide) ?_
      refine x_zret (M := mX5_canFold) (pc := 36) dX5_canFold_36 rfl (by first | with_reducible exact xz0 | with_reducible exact xz1 | with_reducible exact bI_01 _ | with_reducible assumption | assumption) (by first | exact Nat.le_of_ble_eq_true rfl | omega) (by first | exact Nat.le_of_ble_eq_true rfl | omega) ?_
      first | exact ⟨congrArg Sum.inl (rV1 (by omega)), rfl⟩ | exact ⟨congrArg Sum.inl (rV0 (by omega)), rfl⟩
    · refine x_iconst (M := mX5_canFold) (pc := 15) (v := nI 1) dX5_canFold_15 (by decide) ?_
      refine x_goto (M := mX5_canFold) (pc := 16) 36 dX5_canFold_16 (by decide) ?_
      refine x_zret (M := mX5_canFold) (pc := 36) dX5_canFold_36 rfl (by first | with_reducible exact xz0 | with_reducible exact xz1 | with_reducible exact bI_01 _ | with_reducible assumption | assumption) (by first | exact Nat.le_of_ble_eq_true rfl | omega) (by first | exact Nat.le_of_ble_eq_true rfl | omega) ?_
      first | exact ⟨congrArg Sum.inl (rV1 (by omega)), rfl⟩ | exact ⟨congrArg Sum.inl (rV0 (by omega)), rfl⟩
/-- one place of the folded sheet -/
theorem c_folded (h : xH) (fo PL hi wi n ma f r c d : Nat) (hd : 3 ≤ d) (hma : ma ≤ 8) (pl : Nat → Nat) (hfo : h fo = some (.inr (5, [.int (nI hi), .int (nI wi), .ref PL]))) (hP : PLA g h PL n pl) (hn : n ≤ 16) (h4 : hi ≤ 4) (w4 : wi ≤ 4) (hf : 1 ≤ f) (hf4 : f ≤ 4) (hr : r < p_hi f hi) (hc : c < p_wi f wi) (hm : fmi f hi wi r c < n) (hb : fbi f hi wi r c < n) (m b ro co : Nat → Nat) (w : Nat → Bool × Bool) (hinj : ∀ i j, i < ma → j < ma → m i = m j → i = j) (hbm : ∀ i j, i < ma → j < ma → b i ≠ m j) (hmA : LA g h (pl (fmi f hi wi r c)) ma m) (hbA : LA g h (pl (fbi f hi wi r c)) ma b) (hml : ∀ k, k < ma → h (m k) = some (lyE (ro k) (co k) (w k))) (hbl : ∀ k, k < ma → ∃ vs, h (b k) = some (.inr (6, vs))) :
    Ct g l mX5_folded d 1 (2 * ma) [.ref fo, .int (nI f), .int (nI r), .int (nI c)] h (fun o h' => ∃ al, o = .inl (some (.ref al)) ∧ h al = none ∧ LA g h' al (2 * ma) (fun k => if k < ma then m (ma - 1 - k) else b (k - ma)) ∧ (∀ k, k < ma → h' (m k) = some (lyE (ro k) (co k) (lyT (decide (f < 3)) (w k)))) ∧ (∀ q e, (∀ k, k < ma → q ≠ m k) → h q = some e → h' q = some e)) := by
  have hx := xIs.of (g := g) kcX5 hfo
  have key : ∀ (ac : Bool) (mi bi : Nat), fmi f hi wi r c = mi → fbi f hi wi r c = bi → _ := fun ac mi bi e1 e2 => c_laid (g := g) (l := l) h (pl mi) (pl bi) ma (d - 1) (by omega) hma ac m b ro co w hinj hbm (e1 ▸ hmA) (e2 ▸ hbA) hml hbl
  have pla := fun r c h9 => c_placeAt (g := g) (l := l) h fo PL hi wi n r c (d - 1) pl hfo hP hn h9
  refine Ct.of [some (.ref fo), some (.int (nI f)), some (.int (nI r)), some (.int (nI c)), none] (by decide +kernel) rfl (Nat.le_of_ble_eq_true rfl) rfl rfl ?_
  refine x_iload_n (M := mX5_folded) (pc := 0) dX5_folded_0 rfl ?_
  refine x_S1 (M := mX5_folded) (pc := 1) (M' := mX5_isAcross) q509 kSX5_isAcross dX5_folded_1 (c_isAcross h f (d - 1) (by omega)) (fun v_ h hq_ => ?_)
  obtain ⟨hv_, rfl⟩ := hq_; cases hv_
  skip
  rcases (by omega : f = 1 ∨ f = 2 ∨ f = 3 ∨ f = 4) with rfl | rfl | rfl | rfl
  · replace hm : r * wi + (wi / 2 - 1 - c) < n := hm
    replace hb : r * wi + (wi / 2 + c) < n := hb
    replace hr : r < hi := hr
    replace hc : c < wi / 2 := hc
    refine x_ifB_eq (M := mX5_folded) (pc := 4) 16 dX5_folded_4 (by decide) (fun e => absurd e (by decide)) (fun e => ?_)
    refine x_aload_n (M := mX5_folded) (pc := 7) dX5_folded_7 rfl ?_
    refine x_get (M := mX5_folded) (pc := 8) kcX5 1 rfl q494 dX5_folded_8 (by first | assumption | exact xu_s _ _ _ | exact (xu_n (by first | assumption | exact Ne.symm (by assumption) | exact xu_fresh (by assumption) (by assumption) | exact (xu_fresh (by assumption) (by assumption)).symm)).trans (by first | assumption | exact xu_s _ _ _ | exact (xu_n (by first | assumption | exact Ne.symm (by assumption) | exact xu_fresh (by assumption) (by assumption) | exact (xu_fresh (by assumption) (by assumption)).symm)).trans (by first | assumption | exact xu_s _ _ _ | exact (xu_n (by first | assumption | exact Ne.symm (by assumption) | exact xu_fresh (by assumption) (by assumption) | exact (xu_fresh (by assumption) (by assumption)).symm)).trans (by first | assumption | exact xu_s _ _ _)))) rfl ?_
    refine x_iconst (M := mX5_folded) (pc := 11) (v := nI 2) dX5_folded_11 (by decide) ?_
    first | with_reducible refine x_idivN (M := mX5_folded) (pc := 12) dX5_folded_12 (by omega) (by omega) (by omega) ?_ | refine x_idiv (M := mX5_folded) (pc := 12) dX5_folded_12 (by first | decide | assumption) ?_
    refine x_goto (M := mX5_folded) (pc := 13) 22 dX5_folded_13 (by decide) ?_
    refine x_istore4 (M := mX5_folded) (pc := 22) dX5_folded_22 ?_
    refine x_iload_n (M := mX5_folded) (pc := 24) dX5_folded_24 rfl ?_
    refine x_tableIn (M := mX5_folded) (pc := 25) (off := 27) 52 dX5_folded_25 (by decide) (by decide) rfl (by decide) ?_
    refine x_aload_n (M := mX5_folded) (pc := 52) dX5_folded_52 rfl ?_
    refine x_iload_n (M := mX5_folded) (pc := 53) dX5_folded_53 rfl ?_
    refine x_iload (M := mX5_folded) (pc := 54) dX5_folded_54 rfl ?_
    refine x_iconst (M := mX5_folded) (pc := 56) (v := nI 1) dX5_folded_56 (by decide) ?_
    first | with_reducible refine x_isubN (M := mX5_folded) (pc := 57) dX5_folded_57 (by omega) ?_ | refine x_isub (M := mX5_folded) (pc := 57) dX5_folded_57 ?_
    refine x_iload_n (M := mX5_folded) (pc := 58) dX5_folded_58 rfl ?_
    first | with_reducible refine x_isubN (M := mX5_folded) (pc := 59) dX5_folded_59 (by omega) ?_ | refine x_isub (M := mX5_folded) (pc := 59) dX5_folded_59 ?_
    refine x_V2 (M := mX5_folded) (pc := 60) (M' := mX5_placeAt) q517 kVX5_placeAt dX5_folded_60 (pla r (wi / 2 - 1 - c) hm) (hx) (fun v_ h hq_ => ?_)
    obtain ⟨hv_, rfl⟩ := hq_; cases hv_
    refine x_aload_n (M := mX5_folded) (pc := 63) dX5_folded_63 rfl ?_
    refine x_iload_n (M := mX5_folded) (pc := 64) dX5_folded_64 rfl ?_
    refine x_iload (M := mX5_folded) (pc := 65) dX5_folded_65 rfl ?_
    refine x_iload_n (M := mX5_folded) (pc := 67) dX5_folded_67 rfl ?_
    first | with_reducible refine x_iaddN (M := mX5_folded) (pc := 68) dX5_folded_68 ?_ | refine x_iadd (M := mX5_folded) (pc := 68) dX5_folded_68 ?_
    refine x_V2 (M := mX5_folded) (pc := 69) (M' := mX5_placeAt) q517 kVX5_placeAt dX5_folded_69 (pla r (wi / 2 + c) hb) (hx) (fun v_ h hq_ => ?_)
    obtain ⟨hv_, rfl⟩ := hq_; cases hv_
    refine x_iconst (M := mX5_folded) (pc := 72) (v := nI 1) dX5_folded_72 (by decide) ?_
    refine x_S3 (M := mX5_folded) (pc := 73) (M' := mX5_laid) q521 kSX5_laid dX5_folded_73 (key true _ _ rfl rfl) (fun v_ h hq_ => ?_)
    obtain ⟨al, hv_, w⟩ := hq_; cases hv_
    refine x_aret (M := mX5_folded) (pc := 76) dX5_folded_76 rfl (by first | exact Or.inl ⟨_, rfl⟩ | exact Or.inr ⟨_, rfl⟩) (by first | exact Nat.le_of_ble_eq_true rfl | omega) (by first | exact Nat.le_of_ble_eq_true rfl | omega) ?_
    exact ⟨al, rfl, w⟩
  · replace hm : r * wi + (wi - 1 - c) < n := hm
    replace hb : r * wi + c < n := hb
    replace hr : r < hi := hr
    replace hc : c < wi / 2 := hc
    refine x_ifB_eq (M := mX5_folded) (pc := 4) 16 dX5_folded_4 (by decide) (fun e => absurd e (by decide)) (fun e => ?_)
    refine x_aload_n (M := mX5_folded) (pc := 7) dX5_folded_7 rfl ?_
    refine x_get (M := mX5_folded) (pc := 8) kcX5 1 rfl q494 dX5_folded_8 (by first | assumption | exact xu_s _ _ _ | exact (xu_n (by first | assumption | exact Ne.symm (by assumption) | exact xu_fresh (by assumption) (by assumption) | exact (xu_fresh (by assumption) (by assumption)).symm)).trans (by first | assumption | exact xu_s _ _ _ | exact (xu_n (by first | assumption | exact Ne.symm (by assumption) | exact xu_fresh (by assumption) (by assumption) | exact (xu_fresh (by assumption) (by assumption)).symm)).trans (by first | assumption | exact xu_s _ _ _ | exact (xu_n (by first | assumption | exact Ne.symm (by assumption) | exact xu_fresh (by assumption) (by assumption) | exact (xu_fresh (by assumption) (by assumption)).symm)).trans (by first | assumption | exact xu_s _ _ _)))) rfl ?_
    refine x_iconst (M := mX5_folded) (pc := 11) (v := nI 2) dX5_folded_11 (by decide) ?_
    first | with_reducible refine x_idivN (M := mX5_folded) (pc := 12) dX5_folded_12 (by omega) (by omega) (by omega) ?_ | refine x_idiv (M := mX5_folded) (pc := 12) dX5_folded_12 (by first | decide | assumption) ?_
    refine x_goto (M := mX5_folded) (pc := 13) 22 dX5_folded_13 (by decide) ?_
    refine x_istore4 (M := mX5_folded) (pc := 22) dX5_folded_22 ?_
    refine x_iload_n (M := mX5_folded) (pc := 24) dX5_folded_24 rfl ?_
    refine x_tableIn (M := mX5_folded) (pc := 25) (off := 52) 77 dX5_folded_25 (by decide) (by decide) rfl (by decide) ?_
    refine x_aload_n (M := mX5_folded) (pc := 77) dX5_folded_77 rfl ?_
    refine x_iload_n (M := mX5_folded) (pc := 78) dX5_folded_78 rfl ?_
    refine x_aload_n (M := mX5_folded) (pc := 79) dX5_folded_79 rfl ?_
    refine x_get (M := mX5_folded) (pc := 80) kcX5 1 rfl q494 dX5_folded_80 (by first | assumption | exact xu_s _ _ _ | exact (xu_n (by first | assumption | exact Ne.symm (by assumption) | exact xu_fresh (by assumption) (by assumption) | exact (xu_fresh (by assumption) (by assumption)).symm)).trans (by first | assumption | exact xu_s _ _ _ | exact (xu_n (by first | assumption | exact Ne.symm (by assumption) | exact xu_fresh (by assumption) (by assumption) | exact (xu_fresh (by assumption) (by assumption)).symm)).trans (by first | assumption | exact xu_s _ _ _ | exact (xu_n (by first | assumption | exact Ne.symm (by assumption) | exact xu_fresh (by assumption) (by assumption) | exact (xu_fresh (by assumption) (by assumption)).symm)).trans (by first | assumption | exact xu_s _ _ _)))) rfl ?_
    refine x_iconst (M := mX5_folded) (pc := 83) (v := nI 1) dX5_folded_83 (by decide) ?_
    first | with_reducible refine x_isubN (M := mX5_folded) (pc := 84) dX5_folded_84 (by omega) ?_ | refine x_isub (M := mX5_folded) (pc := 84) dX5_folded_84 ?_
    refine x_iload_n (M := mX5_folded) (pc := 85) dX5_folded_85 rfl ?_
    first | with_reducible refine x_isubN (M := mX5_folded) (pc := 86) dX5_folded_86 (by omega) ?_ | refine x_isub (M := mX5_folded) (pc := 86) dX5_folded_86 ?_
    refine x_V2 (M := mX5_folded) (pc := 87) (M' := mX5_placeAt) q517 kVX5_placeAt dX5_folded_87 (pla r (wi - 1 - c) hm) (hx) (fun v_ h hq_ => ?_)
    obtain ⟨hv_, rfl⟩ := hq_; cases hv_
    refine x_aload_n (M := mX5_folded) (pc := 90) dX5_folded_90 rfl ?_
    refine x_iload_n (M := mX5_folded) (pc := 91) dX5_folded_91 rfl ?_
    refine x_iload_n (M := mX5_folded) (pc := 92) dX5_folded_92 rfl ?_
    refine x_V2 (M := mX5_folded) (pc := 93) (M' := mX5_placeAt) q517 kVX5_placeAt dX5_folded_93 (pla r c hb) (hx) (fun v_ h hq_ => ?_)
    obtain ⟨hv_, rfl⟩ := hq_; cases hv_
    refine x_iconst (M := mX5_folded) (pc := 96) (v := nI 1) dX5_folded_96 (by decide) ?_
    refine x_S3 (M := mX5_folded) (pc := 97) (M' := mX5_laid) q521 kSX5_laid dX5_folded_97 (key true _ _ rfl rfl) (fun v_ h hq_ => ?_)
    obtain ⟨al, hv_, w⟩ := hq_; cases hv_
    refine x_aret (M := mX5_folded) (pc := 100) dX5_folded_100 rfl (by first | exact Or.inl ⟨_, rfl⟩ | exact Or.inr ⟨_, rfl⟩) (by first | exact Nat.le_of_ble_eq_true rfl | omega) (by first | exact Nat.le_of_ble_eq_true rfl | omega) ?_
    exact ⟨al, rfl, w⟩
  · replace hm : (hi / 2 - 1 - r) * wi + c < n := hm
    replace hb : (hi / 2 + r) * wi + c < n := hb
    replace hr : r < hi / 2 := hr
    replace hc : c < wi := hc
    refine x_ifB_eq (M := mX5_folded) (pc := 4) 16 dX5_folded_4 (by decide) (fun e => ?_) (fun e => absurd e (by decide))
    refine x_aload_n (M := mX5_folded) (pc := 16) dX5_folded_16 rfl ?_
    refine x_get (M := mX5_folded) (pc := 17) kcX5 0 rfl q493 dX5_folded_17 (by first | assumption | exact xu_s _ _ _ | exact (xu_n (by first | assumption | exact Ne.symm (by assumption) | exact xu_fresh (by assumption) (by assumption) | exact (xu_fresh (by assumption) (by assumption)).symm)).trans (by first | assumption | exact xu_s _ _ _ | exact (xu_n (by first | assumption | exact Ne.symm (by assumption) | exact xu_fresh (by assumption) (by assumption) | exact (xu_fresh (by assumption) (by assumption)).symm)).trans (by first | assumption | exact xu_s _ _ _ | exact (xu_n (by first | assumption | exact Ne.symm (by assumption) | exact xu_fresh (by assumption) (by assumption) | exact (xu_fresh (by assumption) (by assumption)).symm)).trans (by first | assumption | exact xu_s _ _ _)))) rfl ?_
    refine x_iconst (M := mX5_folded) (pc := 20) (v := nI 2) dX5_folded_20 (by decide) ?_
    first | with_reducible refine x_idivN (M := mX5_folded) (pc := 21) dX5_folded_21 (by omega) (by omega) (by omega) ?_ | refine x_idiv (M := mX5_folded) (pc := 21) dX5_folded_21 (by first | decide | assumption) ?_
    refine x_istore4 (M := mX5_folded) (pc := 22) dX5_folded_22 ?_
    refine x_iload_n (M := mX5_folded) (pc := 24) dX5_folded_24 rfl ?_
    refine x_tableIn (M := mX5_folded) (pc := 25) (off := 76) 101 dX5_folded_25 (by decide) (by decide) rfl (by decide) ?_
    refine x_aload_n (M := mX5_folded) (pc := 101) dX5_folded_101 rfl ?_
    refine x_iload (M := mX5_folded) (pc := 102) dX5_folded_102 rfl ?_
    refine x_iconst (M := mX5_folded) (pc := 104) (v := nI 1) dX5_folded_104 (by decide) ?_
    first | with_reducible refine x_isubN (M := mX5_folded) (pc := 105) dX5_folded_105 (by omega) ?_ | refine x_isub (M := mX5_folded) (pc := 105) dX5_folded_105 ?_
    refine x_iload_n (M := mX5_folded) (pc := 106) dX5_folded_106 rfl ?_
    first | with_reducible refine x_isubN (M := mX5_folded) (pc := 107) dX5_folded_107 (by omega) ?_ | refine x_isub (M := mX5_folded) (pc := 107) dX5_folded_107 ?_
    refine x_iload_n (M := mX5_folded) (pc := 108) dX5_folded_108 rfl ?_
    refine x_V2 (M := mX5_folded) (pc := 109) (M' := mX5_placeAt) q517 kVX5_placeAt dX5_folded_109 (pla (hi / 2 - 1 - r) c hm) (hx) (fun v_ h hq_ => ?_)
    obtain ⟨hv_, rfl⟩ := hq_; cases hv_
    refine x_aload_n (M := mX5_folded) (pc := 112) dX5_folded_112 rfl ?_
    refine x_iload (M := mX5_folded) (pc := 113) dX5_folded_113 rfl ?_
    refine x_iload_n (M := mX5_folded) (pc := 115) dX5_folded_115 rfl ?_
    first | with_reducible refine x_iaddN (M := mX5_folded) (pc := 116) dX5_folded_116 ?_ | refine x_iadd (M := mX5_folded) (pc := 116) dX5_folded_116 ?_
    refine x_iload_n (M := mX5_folded) (pc := 117) dX5_folded_117 rfl ?_
    refine x_V2 (M := mX5_folded) (pc := 118) (M' := mX5_placeAt) q517 kVX5_placeAt dX5_folded_118 (pla (hi / 2 + r) c hb) (hx) (fun v_ h hq_ => ?_)
    obtain ⟨hv_, rfl⟩ := hq_; cases hv_
    refine x_iconst (M := mX5_folded) (pc := 121) (v := nI 0) dX5_folded_121 (by decide) ?_
    refine x_S3 (M := mX5_folded) (pc := 122) (M' := mX5_laid) q521 kSX5_laid dX5_folded_122 (key false _ _ rfl rfl) (fun v_ h hq_ => ?_)
    obtain ⟨al, hv_, w⟩ := hq_; cases hv_
    refine x_aret (M := mX5_folded) (pc := 125) dX5_folded_125 rfl (by first | exact Or.inl ⟨_, rfl⟩ | exact Or.inr ⟨_, rfl⟩) (by first | exact Nat.le_of_ble_eq_true rfl | omega) (by first | exact Nat.le_of_ble_eq_true rfl | omega) ?_
    exact ⟨al, rfl, w⟩
  · replace hm : (hi - 1 - r) * wi + c < n := hm
    replace hb : r * wi + c < n := hb
    replace hr : r < hi / 2 := hr
    replace hc : c < wi := hc
    refine x_ifB_eq (M := mX5_folded) (pc := 4) 16 dX5_folded_4 (by decide) (fun e => ?_) (fun e => absurd e (by decide))
    refine x_aload_n (M := mX5_folded) (pc := 16) dX5_folded_16 rfl ?_
    refine x_get (M := mX5_folded) (pc := 17) kcX5 0 rfl q493 dX5_folded_17 (by first | assumption | exact xu_s _ _ _ | exact (xu_n (by first | assumption | exact Ne.symm (by assumption) | exact xu_fresh (by assumption) (by assumption) | exact (xu_fresh (by assumption) (by assumption)).symm)).trans (by first | assumption | exact xu_s _ _ _ | exact (xu_n (by first | assumption | exact Ne.symm (by assumption) | exact xu_fresh (by assumption) (by assumption) | exact (xu_fresh (by assumption) (by assumption)).symm)).trans (by first | assumption | exact xu_s _ _ _ | exact (xu_n (by first | assumption | exact Ne.symm (by assumption) | exact xu_fresh (by assumption) (by assumption) | exact (xu_fresh (by assumption) (by assumption)).symm)).trans (by first | assumption | exact xu_s _ _ _)))) rfl ?_
    refine x_iconst (M := mX5_folded) (pc := 20) (v := nI 2) dX5_folded_20 (by decide) ?_
    first | with_reducible refine x_idivN (M := mX5_folded) (pc := 21) dX5_folded_21 (by omega) (by omega) (by omega) ?_ | refine x_idiv (M := mX5_folded) (pc := 21) dX5_folded_21 (by first | decide | assumption) ?_
    refine x_istore4 (M := mX5_folded) (pc := 22) dX5_folded_22 ?_
    refine x_iload_n (M := mX5_folded) (pc := 24) dX5_folded_24 rfl ?_
    refine x_tableOut (M := mX5_folded) (pc := 25) 126 dX5_folded_25 (by decide) (by decide) ?_
    refine x_aload_n (M := mX5_folded) (pc := 126) dX5_folded_126 rfl ?_
    refine x_aload_n (M := mX5_folded) (pc := 127) dX5_folded_127 rfl ?_
    refine x_get (M := mX5_folded) (pc := 128) kcX5 0 rfl q493 dX5_folded_128 (by first | assumption | exact xu_s _ _ _ | exact (xu_n (by first | assumption | exact Ne.symm (by assumption) | exact xu_fresh (by assumption) (by assumption) | exact (xu_fresh (by assumption) (by assumption)).symm)).trans (by first | assumption | exact xu_s _ _ _ | exact (xu_n (by first | assumption | exact Ne.symm (by assumption) | exact xu_fresh (by assumption) (by assumption) | exact (xu_fresh (by assumption) (by assumption)).symm)).trans (by first | assumption | exact xu_s _ _ _ | exact (xu_n (by first | assumption | exact Ne.symm (by assumption) | exact xu_fresh (by assumption) (by assumption) | exact (xu_fresh (by assumption) (by assumption)).symm)).trans (by first | assumption | exact xu_s _ _ _)))) rfl ?_
    refine x_iconst (M := mX5_folded) (pc := 131) (v := nI 1) dX5_folded_131 (by decide) ?_
    first | with_reducible refine x_isubN (M := mX5_folded) (pc := 132) dX5_folded_132 (by omega) ?_ | refine x_isub (M := mX5_folded) (pc := 132) dX5_folded_132 ?_
    refine x_iload_n (M := mX5_folded) (pc := 133) dX5_folded_133 rfl ?_
    first | with_reducible refine x_isubN (M := mX5_folded) (pc := 134) dX5_folded_134 (by omega) ?_ | refine x_isub (M := mX5_folded) (pc := 134) dX5_folded_134 ?_
    refine x_iload_n (M := mX5_folded) (pc := 135) dX5_folded_135 rfl ?_
    refine x_V2 (M := mX5_folded) (pc := 136) (M' := mX5_placeAt) q517 kVX5_placeAt dX5_folded_136 (pla (hi - 1 - r) c hm) (hx) (fun v_ h hq_ => ?_)
    obtain ⟨hv_, rfl⟩ := hq_; cases hv_
    refine x_aload_n (M := mX5_folded) (pc := 139) dX5_folded_139 rfl ?_
    refine x_iload_n (M := mX5_folded) (pc := 140) dX5_folded_140 rfl ?_
    refine x_iload_n (M := mX5_folded) (pc := 141) dX5_folded_141 rfl ?_
    refine x_V2 (M := mX5_folded) (pc := 142) (M' := mX5_placeAt) q517 kVX5_placeAt dX5_folded_142 (pla r c hb) (hx) (fun v_ h hq_ => ?_)
    obtain ⟨hv_, rfl⟩ := hq_; cases hv_
    refine x_iconst (M := mX5_folded) (pc := 145) (v := nI 0) dX5_folded_145 (by decide) ?_
    refine x_S3 (M := mX5_folded) (pc := 146) (M' := mX5_laid) q521 kSX5_laid dX5_folded_146 (key false _ _ rfl rfl) (fun v_ h hq_ => ?_)
    obtain ⟨al, hv_, w⟩ := hq_; cases hv_
    refine x_aret (M := mX5_folded) (pc := 149) dX5_folded_149 rfl (by first | exact Or.inl ⟨_, rfl⟩ | exact Or.inr ⟨_, rfl⟩) (by first | exact Nat.le_of_ble_eq_true rfl | omega) (by first | exact Nat.le_of_ble_eq_true rfl | omega) ?_
    exact ⟨al, rfl, w⟩
end FOLD

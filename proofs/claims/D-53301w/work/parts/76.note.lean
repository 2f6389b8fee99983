/-! notes, numbered notes, their order -/
section NOTE
set_option maxRecDepth 100000
variable {g : xG} {l : Launch} {h h0 : xH}
/-- a Note -/
def NTE (h : xH) (a su ur li : Nat) (wh : Bool) : Prop := h a = some (.inr (7, [.int (nI su), .int (nI ur), .int (nI li), .int (bI wh)]))
def nbR (su ur k : Nat) : Int := (((9 - ur) * 1600 + su * 16 + k : Nat) : Int)
/-- a Numbered of rank r -/
def NBD (h : xH) (a : Nat) (r : Int) : Prop := ∃ nt k su ur li wh, h a = some (.inr (26, [.ref nt, .int (nI k)])) ∧ NTE h nt su ur li wh ∧ su < 100 ∧ ur ≤ 9 ∧ k < 16 ∧ r = nbR su ur k
theorem NBD.le {h' : xH} {a : Nat} {r : Int} (hl : ∀ q c fs, (c = 26 ∨ c = 7) → h q = some (.inr (c, fs)) → h' q = some (.inr (c, fs))) (hn : NBD h a r) : NBD h' a r := by
  obtain ⟨nt, k, su, ur, li, wh, h1, h2, h3⟩ := hn
  exact ⟨nt, k, su, ur, li, wh, hl _ _ _ (Or.inl rfl) h1, hl _ _ _ (Or.inr rfl) h2, h3⟩
theorem c_nteS (h : xH) (a su ur li d : Nat) (wh : Bool) (hn : NTE h a su ur li wh) : Ct g l mX7_subject d 0 0 [.ref a] h (fun o h' => o = .inl (some (.int (nI su))) ∧ h' = h) := by
  unfold NTE at hn
  refine Ct.of [some (.ref a)] (by decide +kernel) rfl (Nat.le_of_ble_eq_true rfl) rfl rfl ?_
  refine x_aload_n (M := mX7_subject) (pc := 0) dX7_subject_0 rfl ?_
  refine x_get (M := mX7_subject) (pc := 1) kcX7 0 rfl q1092 dX7_subject_1 (by first | assumption | exact xu_s _ _ _ | exact (xu_n (by first | assumption | exact Ne.symm (by assumption) | exact xu_fresh (by assumption) (by assumption) | exact (xu_fresh (by assumption) (by assumption)).symm)).trans (by first | assumption | exact xu_s _ _ _ | exact (xu_n (by first | assumption | exact Ne.symm (by assumption) | exact xu_fresh (by assumption) (by assumption) | exact (xu_fresh (by assumption) (by assumption)).symm)).trans (by first | assumption | exact xu_s _ _ _ | exact (xu_n (by first | assumption | exact Ne.symm (by assumption) | exact xu_fresh (by assumption) (by assumption) | exact (xu_fresh (by assumption) (by assumption)).symm)).trans (by first | assumption | exact xu_s _ _ _)))) rfl ?_
  refine x_iret (M := mX7_subject) (pc := 4) dX7_subject_4 rfl (by first | exact Nat.le_of_ble_eq_true rfl | omega) (by first | exact Nat.le_of_ble_eq_true rfl | omega) ?_
  exact ⟨rfl, rfl⟩
theorem c_nteU (h : xH) (a su ur li d : Nat) (wh : Bool) (hn : NTE h a su ur li wh) : Ct g l mX7_urgency d 0 0 [.ref a] h (fun o h' => o = .inl (some (.int (nI ur))) ∧ h' = h) := by
  unfold NTE at hn
  refine Ct.of [some (.ref a)] (by decide +kernel) rfl (Nat.le_of_ble_eq_true rfl) rfl rfl ?_
  refine x_aload_n (M := mX7_urgency) (pc := 0) dX7_urgency_0 rfl ?_
  refine x_get (M := mX7_urgency) (pc := 1) kcX7 1 rfl q1093 dX7_urgency_1 (by first | assumption | exact xu_s _ _ _ | exact (xu_n (by first | assumption | exact Ne.symm (by assumption) | exact xu_fresh (by assumption) (by assumption) | exact (xu_fresh (by assumption) (by assumption)).symm)).trans (by first | assumption | exact xu_s _ _ _ | exact (xu_n (by first | assumption | exact Ne.symm (by assumption) | exact xu_fresh (by assumption) (by assumption) | exact (xu_fresh (by assumption) (by assumption)).symm)).trans (by first | assumption | exact xu_s _ _ _ | exact (xu_n (by first | assumption | exact Ne.symm (by assumption) | exact xu_fresh (by assumption) (by assumption) | exact (xu_fresh (by assumption) (by assumption)).symm)).trans (by first | assumption | exact xu_s _ _ _)))) rfl ?_
  refine x_iret (M := mX7_urgency) (pc := 4) dX7_urgency_4 rfl (by first | exact Nat.le_of_ble_eq_true rfl | omega) (by first | exact Nat.le_of_ble_eq_true rfl | omega) ?_
  exact ⟨rfl, rfl⟩
theorem c_nteL (h : xH) (a su ur li d : Nat) (wh : Bool) (hn : NTE h a su ur li wh) : Ct g l mX7_lines d 0 0 [.ref a] h (fun o h' => o = .inl (some (.int (nI li))) ∧ h' = h) := by
  unfold NTE at hn
  refine Ct.of [some (.ref a)] (by decide +kernel) rfl (Nat.le_of_ble_eq_true rfl) rfl rfl ?_
  refine x_aload_n (M := mX7_lines) (pc := 0) dX7_lines_0 rfl ?_
  refine x_get (M := mX7_lines) (pc := 1) kcX7 2 rfl q1094 dX7_lines_1 (by first | assumption | exact xu_s _ _ _ | exact (xu_n (by first | assumption | exact Ne.symm (by assumption) | exact xu_fresh (by assumption) (by assumption) | exact (xu_fresh (by assumption) (by assumption)).symm)).trans (by first | assumption | exact xu_s _ _ _ | exact (xu_n (by first | assumption | exact Ne.symm (by assumption) | exact xu_fresh (by assumption) (by assumption) | exact (xu_fresh (by assumption) (by assumption)).symm)).trans (by first | assumption | exact xu_s _ _ _ | exact (xu_n (by first | assumption | exact Ne.symm (by assumption) | exact xu_fresh (by assumption) (by assumption) | exact (xu_fresh (by assumption) (by assumption)).symm)).trans (by first | assumption | exact xu_s _ _ _)))) rfl ?_
  refine x_iret (M := mX7_lines) (pc := 4) dX7_lines_4 rfl (by first | exact Nat.le_of_ble_eq_true rfl | omega) (by first | exact Nat.le_of_ble_eq_true rfl | omega) ?_
  exact ⟨rfl, rfl⟩
theorem c_nteW (h : xH) (a su ur li d : Nat) (wh : Bool) (hn : NTE h a su ur li wh) : Ct g l mX7_isWhole d 0 0 [.ref a] h (fun o h' => o = .inl (some (.int (bI wh))) ∧ h' = h) := by
  unfold NTE at hn
  refine Ct.of [some (.ref a)] (by decide +kernel) rfl (Nat.le_of_ble_eq_true rfl) rfl rfl ?_
  refine x_aload_n (M := mX7_isWhole) (pc := 0) dX7_isWhole_0 rfl ?_
  refine x_get (M := mX7_isWhole) (pc := 1) kcX7 3 rfl q1095 dX7_isWhole_1 (by first | assumption | exact xu_s _ _ _ | exact (xu_n (by first | assumption | exact Ne.symm (by assumption) | exact xu_fresh (by assumption) (by assumption) | exact (xu_fresh (by assumption) (by assumption)).symm)).trans (by first | assumption | exact xu_s _ _ _ | exact (xu_n (by first | assumption | exact Ne.symm (by assumption) | exact xu_fresh (by assumption) (by assumption) | exact (xu_fresh (by assumption) (by assumption)).symm)).trans (by first | assumption | exact xu_s _ _ _ | exact (xu_n (by first | assumption | exact Ne.symm (by assumption) | exact xu_fresh (by assumption) (by assumption) | exact (xu_fresh (by assumption) (by assumption)).symm)).trans (by first | assumption | exact xu_s _ _ _)))) rfl ?_
  refine x_zret (M := mX7_isWhole) (pc := 4) dX7_isWhole_4 rfl (by first | with_reducible exact xz0 | with_reducible exact xz1 | with_reducible exact bI_01 _ | with_reducible assumption | assumption) (by first | exact Nat.le_of_ble_eq_true rfl | omega) (by first | exact Nat.le_of_ble_eq_true rfl | omega) ?_
  exact ⟨rfl, rfl⟩
theorem c_nbN (h : xH) (a nt k d : Nat) (hn : h a = some (.inr (26, [.ref nt, .int (nI k)]))) : Ct g l mX29_note d 0 0 [.ref a] h (fun o h' => o = .inl (some (.ref nt)) ∧ h' = h) := by
  refine Ct.of [some (.ref a)] (by decide +kernel) rfl (Nat.le_of_ble_eq_true rfl) rfl rfl ?_
  refine x_aload_n (M := mX29_note) (pc := 0) dX29_note_0 rfl ?_
  refine x_get (M := mX29_note) (pc := 1) kcX29 0 rfl q2155 dX29_note_1 (by first | assumption | exact xu_s _ _ _ | exact (xu_n (by first | assumption | exact Ne.symm (by assumption) | exact xu_fresh (by assumption) (by assumption) | exact (xu_fresh (by assumption) (by assumption)).symm)).trans (by first | assumption | exact xu_s _ _ _ | exact (xu_n (by first | assumption | exact Ne.symm (by assumption) | exact xu_fresh (by assumption) (by assumption) | exact (xu_fresh (by assumption) (by assumption)).symm)).trans (by first | assumption | exact xu_s _ _ _ | exact (xu_n (by first | assumption | exact Ne.symm (by assumption) | exact xu_fresh (by assumption) (by assumption) | exact (xu_fresh (by assumption) (by assumption)).symm)).trans (by first | assumption | exact xu_s _ _ _)))) rfl ?_
  refine x_aret (M := mX29_note) (pc := 4) dX29_note_4 rfl (by first | exact Or.inl ⟨_, rfl⟩ | exact Or.inr ⟨_, rfl⟩) (by first | exact Nat.le_of_ble_eq_true rfl | omega) (by first | exact Nat.le_of_ble_eq_true rfl | omega) ?_
  exact ⟨rfl, rfl⟩
theorem c_nbK (h : xH) (a nt k d : Nat) (hn : h a = some (.inr (26, [.ref nt, .int (nI k)]))) : Ct g l mX29_number d 0 0 [.ref a] h (fun o h' => o = .inl (some (.int (nI k))) ∧ h' = h) := by
  refine Ct.of [some (.ref a)] (by decide +kernel) rfl (Nat.le_of_ble_eq_true rfl) rfl rfl ?_
  refine x_aload_n (M := mX29_number) (pc := 0) dX29_number_0 rfl ?_
  refine x_get (M := mX29_number) (pc := 1) kcX29 1 rfl q2156 dX29_number_1 (by first | assumption | exact xu_s _ _ _ | exact (xu_n (by first | assumption | exact Ne.symm (by assumption) | exact xu_fresh (by assumption) (by assumption) | exact (xu_fresh (by assumption) (by assumption)).symm)).trans (by first | assumption | exact xu_s _ _ _ | exact (xu_n (by first | assumption | exact Ne.symm (by assumption) | exact xu_fresh (by assumption) (by assumption) | exact (xu_fresh (by assumption) (by assumption)).symm)).trans (by first | assumption | exact xu_s _ _ _ | exact (xu_n (by first | assumption | exact Ne.symm (by assumption) | exact xu_fresh (by assumption) (by assumption) | exact (xu_fresh (by assumption) (by assumption)).symm)).trans (by first | assumption | exact xu_s _ _ _)))) rfl ?_
  refine x_iret (M := mX29_number) (pc := 4) dX29_number_4 rfl (by first | exact Nat.le_of_ble_eq_true rfl | omega) (by first | exact Nat.le_of_ble_eq_true rfl | omega) ?_
  exact ⟨rfl, rfl⟩
theorem c_nbInit (h : xH) (a nt k d : Nat) (v0 v1 : Value) (hd : 2 ≤ d) (hn : h a = some (.inr (26, [v0, v1]))) : Ct g l mX29_init d 0 0 [.ref a, .ref nt, .int (nI k)] h (fun o h' => o = .inl none ∧ h' = xu h a (.inr (26, [.ref nt, .int (nI k)]))) := by
  refine Ct.of [some (.ref a), some (.ref nt), some (.int (nI k))] (by decide +kernel) rfl (Nat.le_of_ble_eq_true rfl) rfl rfl ?_
  refine x_aload_n (M := mX29_init) (pc := 0) dX29_init_0 rfl ?_
  refine x_I0 (M := mX29_init) (pc := 1) (M' := mJ8_init) q2154 kIJ8_init dX29_init_1 (j_recInit h a (d - 1) (by omega)) (fun v_ h hq_ => ?_)
  obtain ⟨hv_, rfl⟩ := hq_; cases hv_
  refine x_aload_n (M := mX29_init) (pc := 4) dX29_init_4 rfl ?_
  refine x_aload_n (M := mX29_init) (pc := 5) dX29_init_5 rfl ?_
  first | refine x_putF0' (M := mX29_init) (pc := 6) kcX29 q2155 dX29_init_6 ?_ | refine x_putF0 (M := mX29_init) (pc := 6) kcX29 q2155 dX29_init_6 (by first | assumption | exact xu_s _ _ _ | exact (xu_n (by first | assumption | exact Ne.symm (by assumption) | exact xu_fresh (by assumption) (by assumption) | exact (xu_fresh (by assumption) (by assumption)).symm)).trans (by first | assumption | exact xu_s _ _ _ | exact (xu_n (by first | assumption | exact Ne.symm (by assumption) | exact xu_fresh (by assumption) (by assumption) | exact (xu_fresh (by assumption) (by assumption)).symm)).trans (by first | assumption | exact xu_s _ _ _ | exact (xu_n (by first | assumption | exact Ne.symm (by assumption) | exact xu_fresh (by assumption) (by assumption) | exact (xu_fresh (by assumption) (by assumption)).symm)).trans (by first | assumption | exact xu_s _ _ _)))) ?_
  refine x_aload_n (M := mX29_init) (pc := 9) dX29_init_9 rfl ?_
  refine x_iload_n (M := mX29_init) (pc := 10) dX29_init_10 rfl ?_
  first | refine x_putF1' (M := mX29_init) (pc := 11) kcX29 q2156 dX29_init_11 ?_ | refine x_putF1 (M := mX29_init) (pc := 11) kcX29 q2156 dX29_init_11 (by first | assumption | exact xu_s _ _ _ | exact (xu_n (by first | assumption | exact Ne.symm (by assumption) | exact xu_fresh (by assumption) (by assumption) | exact (xu_fresh (by assumption) (by assumption)).symm)).trans (by first | assumption | exact xu_s _ _ _ | exact (xu_n (by first | assumption | exact Ne.symm (by assumption) | exact xu_fresh (by assumption) (by assumption) | exact (xu_fresh (by assumption) (by assumption)).symm)).trans (by first | assumption | exact xu_s _ _ _ | exact (xu_n (by first | assumption | exact Ne.symm (by assumption) | exact xu_fresh (by assumption) (by assumption) | exact (xu_fresh (by assumption) (by assumption)).symm)).trans (by first | assumption | exact xu_s _ _ _)))) ?_
  refine x_vret (M := mX29_init) (pc := 14) dX29_init_14 rfl (by first | exact Nat.le_of_ble_eq_true rfl | omega) (by first | exact Nat.le_of_ble_eq_true rfl | omega) ?_
  exact ⟨rfl, rfl⟩
theorem c_nteInit (h : xH) (a su ur li d : Nat) (wh : Bool) (v0 v1 v2 v3 : Value) (hd : 2 ≤ d) (hn : h a = some (.inr (7, [v0, v1, v2, v3]))) : Ct g l mX7_init d 0 0 [.ref a, .int (nI su), .int (nI ur), .int (nI li), .int (bI wh)] h (fun o h' => o = .inl none ∧ h' = xu h a (.inr (7, [.int (nI su), .int (nI ur), .int (nI li), .int (bI wh)]))) := by
  have hw := bI_01 wh
  refine Ct.of [some (.ref a), some (.int (nI su)), some (.int (nI ur)), some (.int (nI li)), some (.int (bI wh))] (by decide +kernel) rfl (Nat.le_of_ble_eq_true rfl) rfl rfl ?_
  refine x_aload_n (M := mX7_init) (pc := 0) dX7_init_0 rfl ?_
  refine x_I0 (M := mX7_init) (pc := 1) (M' := mJ8_init) q1091 kIJ8_init dX7_init_1 (j_recInit h a (d - 1) (by omega)) (fun v_ h hq_ => ?_)
  obtain ⟨hv_, rfl⟩ := hq_; cases hv_
  refine x_aload_n (M := mX7_init) (pc := 4) dX7_init_4 rfl ?_
  refine x_iload_n (M := mX7_init) (pc := 5) dX7_init_5 rfl ?_
  first | refine x_putF0' (M := mX7_init) (pc := 6) kcX7 q1092 dX7_init_6 ?_ | refine x_putF0 (M := mX7_init) (pc := 6) kcX7 q1092 dX7_init_6 (by first | assumption | exact xu_s _ _ _ | exact (xu_n (by first | assumption | exact Ne.symm (by assumption) | exact xu_fresh (by assumption) (by assumption) | exact (xu_fresh (by assumption) (by assumption)).symm)).trans (by first | assumption | exact xu_s _ _ _ | exact (xu_n (by first | assumption | exact Ne.symm (by assumption) | exact xu_fresh (by assumption) (by assumption) | exact (xu_fresh (by assumption) (by assumption)).symm)).trans (by first | assumption | exact xu_s _ _ _ | exact (xu_n (by first | assumption | exact Ne.symm (by assumption) | exact xu_fresh (by assumption) (by assumption) | exact (xu_fresh (by assumption) (by assumption)).symm)).trans (by first | assumption | exact xu_s _ _ _)))) ?_
  refine x_aload_n (M := mX7_init) (pc := 9) dX7_init_9 rfl ?_
  refine x_iload_n (M := mX7_init) (pc := 10) dX7_init_10 rfl ?_
  first | refine x_putF1' (M := mX7_init) (pc := 11) kcX7 q1093 dX7_init_11 ?_ | refine x_putF1 (M := mX7_init) (pc := 11) kcX7 q1093 dX7_init_11 (by first | assumption | exact xu_s _ _ _ | exact (xu_n (by first | assumption | exact Ne.symm (by assumption) | exact xu_fresh (by assumption) (by assumption) | exact (xu_fresh (by assumption) (by assumption)).symm)).trans (by first | assumption | exact xu_s _ _ _ | exact (xu_n (by first | assumption | exact Ne.symm (by assumption) | exact xu_fresh (by assumption) (by assumption) | exact (xu_fresh (by assumption) (by assumption)).symm)).trans (by first | assumption | exact xu_s _ _ _ | exact (xu_n (by first | assumption | exact Ne.symm (by assumption) | exact xu_fresh (by assumption) (by assumption) | exact (xu_fresh (by assumption) (by assumption)).symm)).trans (by first | assumption | exact xu_s _ _ _)))) ?_
  refine x_aload_n (M := mX7_init) (pc := 14) dX7_init_14 rfl ?_
  refine x_iload_n (M := mX7_init) (pc := 15) dX7_init_15 rfl ?_
  first | refine x_putF2' (M := mX7_init) (pc := 16) kcX7 q1094 dX7_init_16 ?_ | refine x_putF2 (M := mX7_init) (pc := 16) kcX7 q1094 dX7_init_16 (by first | assumption | exact xu_s _ _ _ | exact (xu_n (by first | assumption | exact Ne.symm (by assumption) | exact xu_fresh (by assumption) (by assumption) | exact (xu_fresh (by assumption) (by assumption)).symm)).trans (by first | assumption | exact xu_s _ _ _ | exact (xu_n (by first | assumption | exact Ne.symm (by assumption) | exact xu_fresh (by assumption) (by assumption) | exact (xu_fresh (by assumption) (by assumption)).symm)).trans (by first | assumption | exact xu_s _ _ _ | exact (xu_n (by first | assumption | exact Ne.symm (by assumption) | exact xu_fresh (by assumption) (by assumption) | exact (xu_fresh (by assumption) (by assumption)).symm)).trans (by first | assumption | exact xu_s _ _ _)))) ?_
  refine x_aload_n (M := mX7_init) (pc := 19) dX7_init_19 rfl ?_
  refine x_iload (M := mX7_init) (pc := 20) dX7_init_20 rfl ?_
  first | refine x_putF3' (M := mX7_init) (pc := 22) kcX7 q1095 dX7_init_22 ?_ | refine x_putF3 (M := mX7_init) (pc := 22) kcX7 q1095 dX7_init_22 (by first | assumption | exact xu_s _ _ _ | exact (xu_n (by first | assumption | exact Ne.symm (by assumption) | exact xu_fresh (by assumption) (by assumption) | exact (xu_fresh (by assumption) (by assumption)).symm)).trans (by first | assumption | exact xu_s _ _ _ | exact (xu_n (by first | assumption | exact Ne.symm (by assumption) | exact xu_fresh (by assumption) (by assumption) | exact (xu_fresh (by assumption) (by assumption)).symm)).trans (by first | assumption | exact xu_s _ _ _ | exact (xu_n (by first | assumption | exact Ne.symm (by assumption) | exact xu_fresh (by assumption) (by assumption) | exact (xu_fresh (by assumption) (by assumption)).symm)).trans (by first | assumption | exact xu_s _ _ _)))) ?_
  refine x_vret (M := mX7_init) (pc := 25) dX7_init_25 rfl (by first | exact Nat.le_of_ble_eq_true rfl | omega) (by first | exact Nat.le_of_ble_eq_true rfl | omega) ?_
  exact ⟨rfl, rfl⟩
theorem c_buInit (h : xH) (a d : Nat) (hd : 1 ≤ d) : Ct g l mX28_init d 0 0 [.ref a] h (fun o h' => o = .inl none ∧ h' = h) := by
  refine Ct.of [some (.ref a)] (by decide +kernel) rfl (Nat.le_of_ble_eq_true rfl) rfl rfl ?_
  refine x_aload_n (M := mX28_init) (pc := 0) dX28_init_0 rfl ?_
  refine x_objInit (M := mX28_init) (pc := 1) q2120 dX28_init_1 (by first | exact Nat.le_of_ble_eq_true rfl | omega) (by first | exact Nat.le_of_ble_eq_true rfl | (simp [xcat_rf, Value.category])) ?_
  refine x_vret (M := mX28_init) (pc := 4) dX28_init_4 rfl (by first | exact Nat.le_of_ble_eq_true rfl | omega) (by first | exact Nat.le_of_ble_eq_true rfl | omega) ?_
  exact ⟨rfl, rfl⟩
theorem subz {a b : Nat} (ha : a < 2 ^ 30) (hb : b < 2 ^ 30) : nI a - nI b = 0 ↔ a = b := by
  rw [← Int32.toInt_inj, sgn_sub ha hb]; show (a : Int) - b = 0 ↔ _; omega
theorem c_nbCmp (h : xH) (c a b d : Nat) (ra rb : Int) (hd : 1 ≤ d) (ha : NBD h a ra) (hb : NBD h b rb) : Ct g l mX28_compare_2 d 0 0 [.ref c, .ref a, .ref b] h (fun o h' => (∃ v, o = .inl (some (.int v)) ∧ sgn v ra rb) ∧ h' = h) := by
  obtain ⟨n1, k1, s1, u1, l1, w1, ha, hn1, b1, b2, b3, e1⟩ := ha
  obtain ⟨n2, k2, s2, u2, l2, w2, hb, hn2, b4, b5, b6, e2⟩ := hb
  subst e1; subst e2
  have i1 : xIs g h n1 RX7 := xIs.of kcX7 hn1
  have i2 : xIs g h n2 RX7 := xIs.of kcX7 hn2
  have i3 : xIs g h a RX29 := xIs.of kcX29 ha
  have i4 : xIs g h b RX29 := xIs.of kcX29 hb
  have key : ∀ v : Int32, (v.toInt < 0 ↔ nbR s1 u1 k1 < nbR s2 u2 k2) → (0 < v.toInt ↔ nbR s2 u2 k2 < nbR s1 u1 k1) → (∃ w, (Sum.inl (some (Value.int v)) : xO) = .inl (some (.int w)) ∧ sgn w (nbR s1 u1 k1) (nbR s2 u2 k2)) := fun v k1 k2 => ⟨v, rfl, by rw [Int32.lt_iff_toInt_lt]; exact k1, by rw [Int32.lt_iff_toInt_lt]; exact k2⟩
  refine Ct.of [some (.ref c), some (.ref a), some (.ref b), none] (by decide +kernel) rfl (Nat.le_of_ble_eq_true rfl) rfl rfl ?_
  refine x_aload_n (M := mX28_compare_2) (pc := 0) dX28_compare_2_0 rfl ?_
  refine x_V0 (M := mX28_compare_2) (pc := 1) (M' := mX29_note) q2197 kVX29_note dX28_compare_2_1 (c_nbN h a n1 k1 (d - 1) ha) (i3) (fun v_ h hq_ => ?_)
  obtain ⟨hv_, rfl⟩ := hq_; cases hv_
  refine x_V0 (M := mX28_compare_2) (pc := 4) (M' := mX7_urgency) q2201 kVX7_urgency dX28_compare_2_4 (c_nteU h n1 s1 u1 l1 (d - 1) w1 hn1) (i1) (fun v_ h hq_ => ?_)
  obtain ⟨hv_, rfl⟩ := hq_; cases hv_
  refine x_aload_n (M := mX28_compare_2) (pc := 7) dX28_compare_2_7 rfl ?_
  refine x_V0 (M := mX28_compare_2) (pc := 8) (M' := mX29_note) q2197 kVX29_note dX28_compare_2_8 (c_nbN h b n2 k2 (d - 1) hb) (i4) (fun v_ h hq_ => ?_)
  obtain ⟨hv_, rfl⟩ := hq_; cases hv_
  refine x_V0 (M := mX28_compare_2) (pc := 11) (M' := mX7_urgency) q2201 kVX7_urgency dX28_compare_2_11 (c_nteU h n2 s2 u2 l2 (d - 1) w2 hn2) (i2) (fun v_ h hq_ => ?_)
  obtain ⟨hv_, rfl⟩ := hq_; cases hv_
  first | with_reducible refine x_icmp_eqN (M := mX28_compare_2) (pc := 14) 33 dX28_compare_2_14 (by decide) (by omega) (by omega) (fun c14 => ?_) (fun c14 => ?_) | refine x_icmp_eq (M := mX28_compare_2) (pc := 14) 33 dX28_compare_2_14 (by decide) (fun c14 => ?_) (fun c14 => ?_)
  · refine x_aload_n (M := mX28_compare_2) (pc := 33) dX28_compare_2_33 rfl ?_
    refine x_V0 (M := mX28_compare_2) (pc := 34) (M' := mX29_note) q2197 kVX29_note dX28_compare_2_34 (c_nbN h a n1 k1 (d - 1) ha) (i3) (fun v_ h hq_ => ?_)
    obtain ⟨hv_, rfl⟩ := hq_; cases hv_
    refine x_V0 (M := mX28_compare_2) (pc := 37) (M' := mX7_subject) q2205 kVX7_subject dX28_compare_2_37 (c_nteS h n1 s1 u1 l1 (d - 1) w1 hn1) (i1) (fun v_ h hq_ => ?_)
    obtain ⟨hv_, rfl⟩ := hq_; cases hv_
    refine x_aload_n (M := mX28_compare_2) (pc := 40) dX28_compare_2_40 rfl ?_
    refine x_V0 (M := mX28_compare_2) (pc := 41) (M' := mX29_note) q2197 kVX29_note dX28_compare_2_41 (c_nbN h b n2 k2 (d - 1) hb) (i4) (fun v_ h hq_ => ?_)
    obtain ⟨hv_, rfl⟩ := hq_; cases hv_
    refine x_V0 (M := mX28_compare_2) (pc := 44) (M' := mX7_subject) q2205 kVX7_subject dX28_compare_2_44 (c_nteS h n2 s2 u2 l2 (d - 1) w2 hn2) (i2) (fun v_ h hq_ => ?_)
    obtain ⟨hv_, rfl⟩ := hq_; cases hv_
    first | with_reducible refine x_isubN (M := mX28_compare_2) (pc := 47) dX28_compare_2_47 (by fail) ?_ | refine x_isub (M := mX28_compare_2) (pc := 47) dX28_compare_2_47 ?_
    refine x_istore3 (M := mX28_compare_2) (pc := 48) dX28_compare_2_48 ?_
    refine x_iload_n (M := mX28_compare_2) (pc := 49) dX28_compare_2_49 rfl ?_
    refine x_if_eq (M := mX28_compare_2) (pc := 50) 57 dX28_compare_2_50 (by decide) (fun r_50 => ?_) (fun r_50 => ?_)
    · rw [subz (by omega) (by omega)] at r_50
      refine x_aload_n (M := mX28_compare_2) (pc := 57) dX28_compare_2_57 rfl ?_
      refine x_V0 (M := mX28_compare_2) (pc := 58) (M' := mX29_number) q2209 kVX29_number dX28_compare_2_58 (c_nbK h a n1 k1 (d - 1) ha) (i3) (fun v_ h hq_ => ?_)
      obtain ⟨hv_, rfl⟩ := hq_; cases hv_
      refine x_aload_n (M := mX28_compare_2) (pc := 61) dX28_compare_2_61 rfl ?_
      refine x_V0 (M := mX28_compare_2) (pc := 62) (M' := mX29_number) q2209 kVX29_number dX28_compare_2_62 (c_nbK h b n2 k2 (d - 1) hb) (i4) (fun v_ h hq_ => ?_)
      obtain ⟨hv_, rfl⟩ := hq_; cases hv_
      first | with_reducible refine x_isubN (M := mX28_compare_2) (pc := 65) dX28_compare_2_65 (by fail) ?_ | refine x_isub (M := mX28_compare_2) (pc := 65) dX28_compare_2_65 ?_
      refine x_iret (M := mX28_compare_2) (pc := 66) dX28_compare_2_66 rfl (by first | exact Nat.le_of_ble_eq_true rfl | omega) (by first | exact Nat.le_of_ble_eq_true rfl | omega) ?_
      refine ⟨key _ ?_ ?_, rfl⟩ <;> rw [sgn_sub (by omega) (by omega)] <;> unfold nbR <;> omega
    · rw [subz (by omega) (by omega)] at r_50
      refine x_iload_n (M := mX28_compare_2) (pc := 53) dX28_compare_2_53 rfl ?_
      refine x_goto (M := mX28_compare_2) (pc := 54) 66 dX28_compare_2_54 (by decide) ?_
      refine x_iret (M := mX28_compare_2) (pc := 66) dX28_compare_2_66 rfl (by first | exact Nat.le_of_ble_eq_true rfl | omega) (by first | exact Nat.le_of_ble_eq_true rfl | omega) ?_
      refine ⟨key _ ?_ ?_, rfl⟩ <;> rw [sgn_sub (by omega) (by omega)] <;> unfold nbR <;> omega
  · refine x_aload_n (M := mX28_compare_2) (pc := 17) dX28_compare_2_17 rfl ?_
    refine x_V0 (M := mX28_compare_2) (pc := 18) (M' := mX29_note) q2197 kVX29_note dX28_compare_2_18 (c_nbN h b n2 k2 (d - 1) hb) (i4) (fun v_ h hq_ => ?_)
    obtain ⟨hv_, rfl⟩ := hq_; cases hv_
    refine x_V0 (M := mX28_compare_2) (pc := 21) (M' := mX7_urgency) q2201 kVX7_urgency dX28_compare_2_21 (c_nteU h n2 s2 u2 l2 (d - 1) w2 hn2) (i2) (fun v_ h hq_ => ?_)
    obtain ⟨hv_, rfl⟩ := hq_; cases hv_
    refine x_aload_n (M := mX28_compare_2) (pc := 24) dX28_compare_2_24 rfl ?_
    refine x_V0 (M := mX28_compare_2) (pc := 25) (M' := mX29_note) q2197 kVX29_note dX28_compare_2_25 (c_nbN h a n1 k1 (d - 1) ha) (i3) (fun v_ h hq_ => ?_)
    obtain ⟨hv_, rfl⟩ := hq_; cases hv_
    refine x_V0 (M := mX28_compare_2) (pc := 28) (M' := mX7_urgency) q2201 kVX7_urgency dX28_compare_2_28 (c_nteU h n1 s1 u1 l1 (d - 1) w1 hn1) (i1) (fun v_ h hq_ => ?_)
    obtain ⟨hv_, rfl⟩ := hq_; cases hv_
    first | with_reducible refine x_isubN (M := mX28_compare_2) (pc := 31) dX28_compare_2_31 (by fail) ?_ | refine x_isub (M := mX28_compare_2) (pc := 31) dX28_compare_2_31 ?_
    refine x_iret (M := mX28_compare_2) (pc := 32) dX28_compare_2_32 rfl (by first | exact Nat.le_of_ble_eq_true rfl | omega) (by first | exact Nat.le_of_ble_eq_true rfl | omega) ?_
    refine ⟨key _ ?_ ?_, rfl⟩ <;> rw [sgn_sub (by omega) (by omega)] <;> unfold nbR <;> omega
end NOTE

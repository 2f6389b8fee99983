/-! java.util.ArrayDeque, of a few elements -/
section JDKDQ
set_option maxRecDepth 100000
variable {g : xG} {l : Launch} {h : xH}
/-- a deque: its object at a, its array at arr -/
def DQ (g : xG) (h : xH) (a arr hd : Nat) (xs : List Nat) : Prop :=
  h a = some (.inr (29, [.ref arr, .int (nI hd), .int (nI ((hd + xs.length) % 17))])) ∧ hd < 17 ∧ xs.length ≤ 10 ∧ arr ≠ a ∧ ∃ f, h arr = some (.inl (xdA g 3, 17, .inr (.inr (.inr (.inr f))))) ∧ ∀ i, i < xs.length → f ((hd + i) % 17) = some (xs.getD i 0)
theorem DQ.is {a arr hd : Nat} {xs : List Nat} (hA : DQ g h a arr hd xs) : xIs g h a "java/util/ArrayDeque" := xIs.of kcJ3 hA.1
theorem DQ.le2 {h' : xH} {a arr hd : Nat} {xs : List Nat} (hA : DQ g h a arr hd xs) (e1 : ∀ e, h a = some e → h' a = some e) (e2 : ∀ e, h arr = some e → h' arr = some e) : DQ g h' a arr hd xs := by
  obtain ⟨h1, h2, h3, h4, f, h5, h6⟩ := hA
  exact ⟨e1 _ h1, h2, h3, h4, f, e2 _ h5, h6⟩
theorem dq_tab : ((List.range 17).all fun i => (List.range 17).all fun j => decide (i < j → nI i - nI j < 0 ∧ nI i - nI j + nI 17 = nI (i + 17 - j))) = true := by decide +kernel
theorem dq_neg {i j : Nat} (hi : i < 17) (hj : j < 17) (hlt : i < j) : nI i - nI j < 0 ∧ nI i - nI j + nI 17 = nI (i + 17 - j) := of_decide_eq_true (rg (rg dq_tab hi) hj) hlt
theorem j_dqInit (h : xH) (a d : Nat) (v0 : Value) (hd : 2 ≤ d) (ha : h a = some (.inr (29, [v0, .int (nI 0), .int (nI 0)]))) : Ct g l mJ3_init d 1 17 [.ref a] h (fun o h' => o = .inl none ∧ ∃ arr, h arr = none ∧ DQ g h' a arr 0 [] ∧ xle1 a h h') := by
  refine Ct.of [some (.ref a)] (by decide +kernel) rfl (Nat.le_of_ble_eq_true rfl) rfl rfl ?_
  refine x_aload_n (M := mJ3_init) (pc := 0) dJ3_init_0 rfl ?_
  refine x_I0 (M := mJ3_init) (pc := 1) (M' := mJ0_init) q321 kIJ0_init dJ3_init_1 (j_ALinit0 h a (d - 1) (by omega)) (fun v_ h hq_ => ?_)
  obtain ⟨hv_, rfl⟩ := hq_; cases hv_
  refine x_aload_n (M := mJ3_init) (pc := 4) dJ3_init_4 rfl ?_
  refine x_bipush (M := mJ3_init) (pc := 5) (v := nI 17) dJ3_init_5 (by decide) ?_
  refine x_anew (M := mJ3_init) (pc := 7) 3 _ q322 q323 dJ3_init_7 (by first | rfl | assumption) (by first | exact Nat.le_of_ble_eq_true rfl | omega) (by first | exact Nat.le_of_ble_eq_true rfl | omega) (by first | exact Nat.le_of_ble_eq_true rfl | omega) (fun q7_ hq7_ hb7_ => ?_)
  (try simp only [xu_noneI] at hq7_)
  repeat (obtain ⟨_, hq7_⟩ : _ ∧ _ := hq7_)
  first | refine x_put0' (M := mJ3_init) (pc := 10) kcJ3 q324 dJ3_init_10 ?_ | refine x_put0 (M := mJ3_init) (pc := 10) kcJ3 q324 dJ3_init_10 (by first | assumption | exact xu_s _ _ _ | exact (xu_n (by first | assumption | exact Ne.symm (by assumption) | exact xu_fresh (by assumption) (by assumption) | exact (xu_fresh (by assumption) (by assumption)).symm)).trans (by first | assumption | exact xu_s _ _ _ | exact (xu_n (by first | assumption | exact Ne.symm (by assumption) | exact xu_fresh (by assumption) (by assumption) | exact (xu_fresh (by assumption) (by assumption)).symm)).trans (by first | assumption | exact xu_s _ _ _ | exact (xu_n (by first | assumption | exact Ne.symm (by assumption) | exact xu_fresh (by assumption) (by assumption) | exact (xu_fresh (by assumption) (by assumption)).symm)).trans (by first | assumption | exact xu_s _ _ _)))) ?_
  refine x_vret (M := mJ3_init) (pc := 13) dJ3_init_13 rfl (by first | exact Nat.le_of_ble_eq_true rfl | omega) (by first | exact Nat.le_of_ble_eq_true rfl | omega) ?_
  exact ⟨rfl, q7_, hq7_, ⟨xu_s _ _ _, (by omega), (by decide), (fun e => by rw [e, ha] at hq7_; cases hq7_), _, (xu_n (fun e => by rw [e, ha] at hq7_; cases hq7_)).trans (xu_s _ _ _), fun i hi => absurd hi (Nat.not_lt_zero i)⟩, fun b e n1 hb => (xu_n n1).trans ((xu_n (fun z => by rw [z, hq7_] at hb; cases hb)).trans hb)⟩
theorem j_inc (h : xH) (i d : Nat) (hi : i < 17) : Ct g l mJ3_inc d 0 0 [.int (nI i), .int (nI 17)] h (fun o h' => o = .inl (some (.int (nI ((i + 1) % 17)))) ∧ h' = h) := by
  refine Ct.of [some (.int (nI i)), some (.int (nI 17))] (by decide +kernel) rfl (Nat.le_of_ble_eq_true rfl) rfl rfl ?_
  first | refine x_iinc0N (M := mJ3_inc) (pc := 0) (c := 1) dJ3_inc_0 oI1 ?_ | refine x_iinc0 (M := mJ3_inc) (pc := 0) (c := 1) dJ3_inc_0 (by decide) ?_
  refine x_iload_n (M := mJ3_inc) (pc := 3) dJ3_inc_3 rfl ?_
  refine x_iload_n (M := mJ3_inc) (pc := 4) dJ3_inc_4 rfl ?_
  first | with_reducible refine x_icmp_ltN (M := mJ3_inc) (pc := 5) 10 dJ3_inc_5 (by decide) (by omega) (by omega) (fun c5 => ?_) (fun c5 => ?_) | refine x_icmp_lt (M := mJ3_inc) (pc := 5) 10 dJ3_inc_5 (by decide) (fun c5 => ?_) (fun c5 => ?_)
  · refine x_iload_n (M := mJ3_inc) (pc := 10) dJ3_inc_10 rfl ?_
    refine x_iret (M := mJ3_inc) (pc := 11) dJ3_inc_11 rfl (by first | exact Nat.le_of_ble_eq_true rfl | omega) (by first | exact Nat.le_of_ble_eq_true rfl | omega) ?_
    exact ⟨congrArg (fun z => Sum.inl (some (Value.int (nI z)))) (by omega), rfl⟩
  · refine x_iconst (M := mJ3_inc) (pc := 8) (v := nI 0) dJ3_inc_8 (by decide) ?_
    refine x_istore0 (M := mJ3_inc) (pc := 9) dJ3_inc_9 ?_
    refine x_iload_n (M := mJ3_inc) (pc := 10) dJ3_inc_10 rfl ?_
    refine x_iret (M := mJ3_inc) (pc := 11) dJ3_inc_11 rfl (by first | exact Nat.le_of_ble_eq_true rfl | omega) (by first | exact Nat.le_of_ble_eq_true rfl | omega) ?_
    exact ⟨congrArg (fun z => Sum.inl (some (Value.int (nI z)))) (by omega), rfl⟩
theorem j_dec (h : xH) (i d : Nat) (hi : i < 17) : Ct g l mJ3_dec d 0 0 [.int (nI i), .int (nI 17)] h (fun o h' => o = .inl (some (.int (nI ((i + 16) % 17)))) ∧ h' = h) := by
  refine Ct.of [some (.int (nI i)), some (.int (nI 17))] (by decide +kernel) rfl (Nat.le_of_ble_eq_true rfl) rfl rfl ?_
  refine x_iinc0 (M := mJ3_dec) (pc := 0) (c := (-1)) dJ3_dec_0 (by decide) ?_
  cases i with
  | zero =>
    refine x_iload_n (M := mJ3_dec) (pc := 3) dJ3_dec_3 rfl ?_
    refine x_if_ge (M := mJ3_dec) (pc := 4) 11 dJ3_dec_4 (by decide) (fun r_4 => ?_) (fun r_4 => ?_)
    · exact absurd r_4 (by decide)
    · refine x_iload_n (M := mJ3_dec) (pc := 7) dJ3_dec_7 rfl ?_
      refine x_iconst (M := mJ3_dec) (pc := 8) (v := nI 1) dJ3_dec_8 (by decide) ?_
      first | with_reducible refine x_isubN (M := mJ3_dec) (pc := 9) dJ3_dec_9 (by omega) ?_ | refine x_isub (M := mJ3_dec) (pc := 9) dJ3_dec_9 ?_
      refine x_istore0 (M := mJ3_dec) (pc := 10) dJ3_dec_10 ?_
      refine x_iload_n (M := mJ3_dec) (pc := 11) dJ3_dec_11 rfl ?_
      refine x_iret (M := mJ3_dec) (pc := 12) dJ3_dec_12 rfl (by first | exact Nat.le_of_ble_eq_true rfl | omega) (by first | exact Nat.le_of_ble_eq_true rfl | omega) ?_
      exact ⟨rfl, rfl⟩
  | succ k =>
    have e : nI (k + 1) + -1 = nI k := by have := nI_pred k; rw [Int32.sub_eq_add_neg] at this; exact this
    rw [e]
    refine x_iload_n (M := mJ3_dec) (pc := 3) dJ3_dec_3 rfl ?_
    refine x_if_ge (M := mJ3_dec) (pc := 4) 11 dJ3_dec_4 (by decide) (fun r_4 => ?_) (fun r_4 => ?_)
    · refine x_iload_n (M := mJ3_dec) (pc := 11) dJ3_dec_11 rfl ?_
      refine x_iret (M := mJ3_dec) (pc := 12) dJ3_dec_12 rfl (by first | exact Nat.le_of_ble_eq_true rfl | omega) (by first | exact Nat.le_of_ble_eq_true rfl | omega) ?_
      exact ⟨congrArg (fun z => Sum.inl (some (Value.int (nI z)))) (by omega), rfl⟩
    · exact absurd (nI_pos' (by omega)) r_4
theorem j_dqSub (h : xH) (i j d : Nat) (hi : i < 17) (hj : j < 17) : Ct g l mJ3_sub d 0 0 [.int (nI i), .int (nI j), .int (nI 17)] h (fun o h' => o = .inl (some (.int (nI (if j ≤ i then i - j else i + 17 - j)))) ∧ h' = h) := by
  refine Ct.of [some (.int (nI i)), some (.int (nI j)), some (.int (nI 17))] (by decide +kernel) rfl (Nat.le_of_ble_eq_true rfl) rfl rfl ?_
  by_cases hle : j ≤ i
  · rw [if_pos hle]
    refine x_iload_n (M := mJ3_sub) (pc := 0) dJ3_sub_0 rfl ?_
    refine x_iload_n (M := mJ3_sub) (pc := 1) dJ3_sub_1 rfl ?_
    first | with_reducible refine x_isubN (M := mJ3_sub) (pc := 2) dJ3_sub_2 (by omega) ?_ | refine x_isub (M := mJ3_sub) (pc := 2) dJ3_sub_2 ?_
    refine x_dup (M := mJ3_sub) (pc := 3) dJ3_sub_3 ?_
    refine x_istore0 (M := mJ3_sub) (pc := 4) dJ3_sub_4 ?_
    refine x_if_ge (M := mJ3_sub) (pc := 5) 12 dJ3_sub_5 (by decide) (fun r_5 => ?_) (fun r_5 => ?_)
    · refine x_iload_n (M := mJ3_sub) (pc := 12) dJ3_sub_12 rfl ?_
      refine x_iret (M := mJ3_sub) (pc := 13) dJ3_sub_13 rfl (by first | exact Nat.le_of_ble_eq_true rfl | omega) (by first | exact Nat.le_of_ble_eq_true rfl | omega) ?_
      exact ⟨rfl, rfl⟩
    · exact absurd (nI_pos' (by omega)) r_5
  · rw [if_neg hle]
    have hz := dq_neg hi hj (by omega)
    refine x_iload_n (M := mJ3_sub) (pc := 0) dJ3_sub_0 rfl ?_
    refine x_iload_n (M := mJ3_sub) (pc := 1) dJ3_sub_1 rfl ?_
    first | with_reducible refine x_isubN (M := mJ3_sub) (pc := 2) dJ3_sub_2 (by fail) ?_ | refine x_isub (M := mJ3_sub) (pc := 2) dJ3_sub_2 ?_
    refine x_dup (M := mJ3_sub) (pc := 3) dJ3_sub_3 ?_
    refine x_istore0 (M := mJ3_sub) (pc := 4) dJ3_sub_4 ?_
    refine x_if_ge (M := mJ3_sub) (pc := 5) 12 dJ3_sub_5 (by decide) (fun r_5 => ?_) (fun r_5 => ?_)
    · exact absurd hz.1 (by rw [Int32.not_lt]; exact r_5)
    · refine x_iload_n (M := mJ3_sub) (pc := 8) dJ3_sub_8 rfl ?_
      refine x_iload_n (M := mJ3_sub) (pc := 9) dJ3_sub_9 rfl ?_
      first | with_reducible refine x_iaddN (M := mJ3_sub) (pc := 10) dJ3_sub_10 ?_ | refine x_iadd (M := mJ3_sub) (pc := 10) dJ3_sub_10 ?_
      refine x_istore0 (M := mJ3_sub) (pc := 11) dJ3_sub_11 ?_
      refine x_iload_n (M := mJ3_sub) (pc := 12) dJ3_sub_12 rfl ?_
      refine x_iret (M := mJ3_sub) (pc := 13) dJ3_sub_13 rfl (by first | exact Nat.le_of_ble_eq_true rfl | omega) (by first | exact Nat.le_of_ble_eq_true rfl | omega) ?_
      exact ⟨congrArg (fun z => Sum.inl (some (Value.int z))) hz.2, rfl⟩
theorem j_dqSize (h : xH) (a arr hd d : Nat) (xs : List Nat) (hd1 : 1 ≤ d) (hA : DQ g h a arr hd xs) : Ct g l mJ3_size d 0 0 [.ref a] h (fun o h' => o = .inl (some (.int (nI xs.length))) ∧ h' = h) := by
  obtain ⟨ha, h1, h2, h3, f, hb, h4⟩ := hA
  refine Ct.of [some (.ref a)] (by decide +kernel) rfl (Nat.le_of_ble_eq_true rfl) rfl rfl ?_
  refine x_aload_n (M := mJ3_size) (pc := 0) dJ3_size_0 rfl ?_
  refine x_get (M := mJ3_size) (pc := 1) kcJ3 2 rfl q328 dJ3_size_1 (by first | assumption | exact xu_s _ _ _ | exact (xu_n (by first | assumption | exact Ne.symm (by assumption) | exact xu_fresh (by assumption) (by assumption) | exact (xu_fresh (by assumption) (by assumption)).symm)).trans (by first | assumption | exact xu_s _ _ _ | exact (xu_n (by first | assumption | exact Ne.symm (by assumption) | exact xu_fresh (by assumption) (by assumption) | exact (xu_fresh (by assumption) (by assumption)).symm)).trans (by first | assumption | exact xu_s _ _ _ | exact (xu_n (by first | assumption | exact Ne.symm (by assumption) | exact xu_fresh (by assumption) (by assumption) | exact (xu_fresh (by assumption) (by assumption)).symm)).trans (by first | assumption | exact xu_s _ _ _)))) rfl ?_
  refine x_aload_n (M := mJ3_size) (pc := 4) dJ3_size_4 rfl ?_
  refine x_get (M := mJ3_size) (pc := 5) kcJ3 1 rfl q327 dJ3_size_5 (by first | assumption | exact xu_s _ _ _ | exact (xu_n (by first | assumption | exact Ne.symm (by assumption) | exact xu_fresh (by assumption) (by assumption) | exact (xu_fresh (by assumption) (by assumption)).symm)).trans (by first | assumption | exact xu_s _ _ _ | exact (xu_n (by first | assumption | exact Ne.symm (by assumption) | exact xu_fresh (by assumption) (by assumption) | exact (xu_fresh (by assumption) (by assumption)).symm)).trans (by first | assumption | exact xu_s _ _ _ | exact (xu_n (by first | assumption | exact Ne.symm (by assumption) | exact xu_fresh (by assumption) (by assumption) | exact (xu_fresh (by assumption) (by assumption)).symm)).trans (by first | assumption | exact xu_s _ _ _)))) rfl ?_
  refine x_aload_n (M := mJ3_size) (pc := 8) dJ3_size_8 rfl ?_
  refine x_get (M := mJ3_size) (pc := 9) kcJ3 0 rfl q324 dJ3_size_9 (by first | assumption | exact xu_s _ _ _ | exact (xu_n (by first | assumption | exact Ne.symm (by assumption) | exact xu_fresh (by assumption) (by assumption) | exact (xu_fresh (by assumption) (by assumption)).symm)).trans (by first | assumption | exact xu_s _ _ _ | exact (xu_n (by first | assumption | exact Ne.symm (by assumption) | exact xu_fresh (by assumption) (by assumption) | exact (xu_fresh (by assumption) (by assumption)).symm)).trans (by first | assumption | exact xu_s _ _ _ | exact (xu_n (by first | assumption | exact Ne.symm (by assumption) | exact xu_fresh (by assumption) (by assumption) | exact (xu_fresh (by assumption) (by assumption)).symm)).trans (by first | assumption | exact xu_s _ _ _)))) rfl ?_
  refine x_alen (M := mJ3_size) (pc := 12) dJ3_size_12 (by first | assumption | exact xu_s _ _ _ | exact (xu_n (by first | assumption | exact Ne.symm (by assumption) | exact xu_fresh (by assumption) (by assumption) | exact (xu_fresh (by assumption) (by assumption)).symm)).trans (by first | assumption | exact xu_s _ _ _ | exact (xu_n (by first | assumption | exact Ne.symm (by assumption) | exact xu_fresh (by assumption) (by assumption) | exact (xu_fresh (by assumption) (by assumption)).symm)).trans (by first | assumption | exact xu_s _ _ _ | exact (xu_n (by first | assumption | exact Ne.symm (by assumption) | exact xu_fresh (by assumption) (by assumption) | exact (xu_fresh (by assumption) (by assumption)).symm)).trans (by first | assumption | exact xu_s _ _ _)))) rfl ?_
  refine x_S3 (M := mJ3_size) (pc := 13) (M' := mJ3_sub) q766 kSJ3_sub dJ3_size_13 (j_dqSub h ((hd + xs.length) % 17) hd (d - 1) (by omega) h1) (fun v_ h hq_ => ?_)
  obtain ⟨hv_, rfl⟩ := hq_; cases hv_
  refine x_iret (M := mJ3_size) (pc := 16) dJ3_size_16 rfl (by first | exact Nat.le_of_ble_eq_true rfl | omega) (by first | exact Nat.le_of_ble_eq_true rfl | omega) ?_
  exact ⟨congrArg (fun z => Sum.inl (some (Value.int (nI z)))) (by split <;> omega), rfl⟩
theorem j_dqIsEmpty (h : xH) (a arr hd d : Nat) (xs : List Nat) (hA : DQ g h a arr hd xs) : Ct g l mJ3_isEmpty d 0 0 [.ref a] h (fun o h' => o = .inl (some (.int (bI (decide (xs.length = 0))))) ∧ h' = h) := by
  obtain ⟨ha, h1, h2, h3, f, hb, h4⟩ := hA
  refine Ct.of [some (.ref a)] (by decide +kernel) rfl (Nat.le_of_ble_eq_true rfl) rfl rfl ?_
  refine x_aload_n (M := mJ3_isEmpty) (pc := 0) dJ3_isEmpty_0 rfl ?_
  refine x_get (M := mJ3_isEmpty) (pc := 1) kcJ3 1 rfl q327 dJ3_isEmpty_1 (by first | assumption | exact xu_s _ _ _ | exact (xu_n (by first | assumption | exact Ne.symm (by assumption) | exact xu_fresh (by assumption) (by assumption) | exact (xu_fresh (by assumption) (by assumption)).symm)).trans (by first | assumption | exact xu_s _ _ _ | exact (xu_n (by first | assumption | exact Ne.symm (by assumption) | exact xu_fresh (by assumption) (by assumption) | exact (xu_fresh (by assumption) (by assumption)).symm)).trans (by first | assumption | exact xu_s _ _ _ | exact (xu_n (by first | assumption | exact Ne.symm (by assumption) | exact xu_fresh (by assumption) (by assumption) | exact (xu_fresh (by assumption) (by assumption)).symm)).trans (by first | assumption | exact xu_s _ _ _)))) rfl ?_
  refine x_aload_n (M := mJ3_isEmpty) (pc := 4) dJ3_isEmpty_4 rfl ?_
  refine x_get (M := mJ3_isEmpty) (pc := 5) kcJ3 2 rfl q328 dJ3_isEmpty_5 (by first | assumption | exact xu_s _ _ _ | exact (xu_n (by first | assumption | exact Ne.symm (by assumption) | exact xu_fresh (by assumption) (by assumption) | exact (xu_fresh (by assumption) (by assumption)).symm)).trans (by first | assumption | exact xu_s _ _ _ | exact (xu_n (by first | assumption | exact Ne.symm (by assumption) | exact xu_fresh (by assumption) (by assumption) | exact (xu_fresh (by assumption) (by assumption)).symm)).trans (by first | assumption | exact xu_s _ _ _ | exact (xu_n (by first | assumption | exact Ne.symm (by assumption) | exact xu_fresh (by assumption) (by assumption) | exact (xu_fresh (by assumption) (by assumption)).symm)).trans (by first | assumption | exact xu_s _ _ _)))) rfl ?_
  first | with_reducible refine x_icmp_neN (M := mJ3_isEmpty) (pc := 8) 15 dJ3_isEmpty_8 (by decide) (by omega) (by omega) (fun c8 => ?_) (fun c8 => ?_) | refine x_icmp_ne (M := mJ3_isEmpty) (pc := 8) 15 dJ3_isEmpty_8 (by decide) (fun c8 => ?_) (fun c8 => ?_)
  · refine x_iconst (M := mJ3_isEmpty) (pc := 15) (v := nI 0) dJ3_isEmpty_15 (by decide) ?_
    refine x_zret (M := mJ3_isEmpty) (pc := 16) dJ3_isEmpty_16 rfl (by first | with_reducible exact xz0 | with_reducible exact xz1 | with_reducible exact bI_01 _ | with_reducible assumption | assumption) (by first | exact Nat.le_of_ble_eq_true rfl | omega) (by first | exact Nat.le_of_ble_eq_true rfl | omega) ?_
    first | exact ⟨congrArg Sum.inl (rV1 (by omega)), rfl⟩ | exact ⟨congrArg Sum.inl (rV0 (by omega)), rfl⟩
  · refine x_iconst (M := mJ3_isEmpty) (pc := 11) (v := nI 1) dJ3_isEmpty_11 (by decide) ?_
    refine x_goto (M := mJ3_isEmpty) (pc := 12) 16 dJ3_isEmpty_12 (by decide) ?_
    refine x_zret (M := mJ3_isEmpty) (pc := 16) dJ3_isEmpty_16 rfl (by first | with_reducible exact xz0 | with_reducible exact xz1 | with_reducible exact bI_01 _ | with_reducible assumption | assumption) (by first | exact Nat.le_of_ble_eq_true rfl | omega) (by first | exact Nat.le_of_ble_eq_true rfl | omega) ?_
    first | exact ⟨congrArg Sum.inl (rV1 (by omega)), rfl⟩ | exact ⟨congrArg Sum.inl (rV0 (by omega)), rfl⟩
theorem j_addLast (h : xH) (a arr hd d v : Nat) (xs : List Nat) (hd1 : 1 ≤ d) (hA : DQ g h a arr hd xs) (hv : xOb g h v) (hl : xs.length < 10) : Ct g l mJ3_addLast d 0 0 [.ref a, .ref v] h (fun o h' => o = .inl none ∧ DQ g h' a arr hd (xs ++ [v]) ∧ xle2 a arr h h') := by
  obtain ⟨ha, h1, h2, h3, f, hb, h4⟩ := hA
  obtain ⟨C, hv1, hv2⟩ := hv
  have hF : ∀ i, i < (xs ++ [v]).length → va_up f ((hd + xs.length) % 17) (some v) ((hd + i) % 17) = some ((xs ++ [v]).getD i 0) := by
    intro i hi
    simp only [List.length_append, List.length_cons, List.length_nil] at hi
    by_cases q : i = xs.length
    · subst q; rw [getD_last]; simp [va_up]
    · rw [getD_app _ _ _ (by omega)]; simp [va_up, show (hd + i) % 17 ≠ (hd + xs.length) % 17 by omega]; exact h4 i (by omega)
  have e1 : ((hd + xs.length) % 17 + 1) % 17 = (hd + (xs ++ [v]).length) % 17 := by simp only [List.length_append, List.length_cons, List.length_nil]; omega
  refine Ct.of [some (.ref a), some (.ref v), none] (by decide +kernel) rfl (Nat.le_of_ble_eq_true rfl) rfl rfl ?_
  refine x_aload_n (M := mJ3_addLast) (pc := 0) dJ3_addLast_0 rfl ?_
  refine x_ifnonnullR (M := mJ3_addLast) (pc := 1) 12 dJ3_addLast_1 (by decide) ?_
  refine x_aload_n (M := mJ3_addLast) (pc := 12) dJ3_addLast_12 rfl ?_
  refine x_get (M := mJ3_addLast) (pc := 13) kcJ3 0 rfl q324 dJ3_addLast_13 (by first | assumption | exact xu_s _ _ _ | exact (xu_n (by first | assumption | exact Ne.symm (by assumption) | exact xu_fresh (by assumption) (by assumption) | exact (xu_fresh (by assumption) (by assumption)).symm)).trans (by first | assumption | exact xu_s _ _ _ | exact (xu_n (by first | assumption | exact Ne.symm (by assumption) | exact xu_fresh (by assumption) (by assumption) | exact (xu_fresh (by assumption) (by assumption)).symm)).trans (by first | assumption | exact xu_s _ _ _ | exact (xu_n (by first | assumption | exact Ne.symm (by assumption) | exact xu_fresh (by assumption) (by assumption) | exact (xu_fresh (by assumption) (by assumption)).symm)).trans (by first | assumption | exact xu_s _ _ _)))) rfl ?_
  refine x_astore2 (M := mJ3_addLast) (pc := 16) dJ3_addLast_16 ?_
  refine x_aload_n (M := mJ3_addLast) (pc := 17) dJ3_addLast_17 rfl ?_
  refine x_aload_n (M := mJ3_addLast) (pc := 18) dJ3_addLast_18 rfl ?_
  refine x_get (M := mJ3_addLast) (pc := 19) kcJ3 2 rfl q328 dJ3_addLast_19 (by first | assumption | exact xu_s _ _ _ | exact (xu_n (by first | assumption | exact Ne.symm (by assumption) | exact xu_fresh (by assumption) (by assumption) | exact (xu_fresh (by assumption) (by assumption)).symm)).trans (by first | assumption | exact xu_s _ _ _ | exact (xu_n (by first | assumption | exact Ne.symm (by assumption) | exact xu_fresh (by assumption) (by assumption) | exact (xu_fresh (by assumption) (by assumption)).symm)).trans (by first | assumption | exact xu_s _ _ _ | exact (xu_n (by first | assumption | exact Ne.symm (by assumption) | exact xu_fresh (by assumption) (by assumption) | exact (xu_fresh (by assumption) (by assumption)).symm)).trans (by first | assumption | exact xu_s _ _ _)))) rfl ?_
  refine x_aload_n (M := mJ3_addLast) (pc := 22) dJ3_addLast_22 rfl ?_
  refine x_aastN (M := mJ3_addLast) (pc := 23) _ dJ3_addLast_23 (by first | assumption | exact xu_s _ _ _ | exact (xu_n (by first | assumption | exact Ne.symm (by assumption) | exact xu_fresh (by assumption) (by assumption) | exact (xu_fresh (by assumption) (by assumption)).symm)).trans (by first | assumption | exact xu_s _ _ _ | exact (xu_n (by first | assumption | exact Ne.symm (by assumption) | exact xu_fresh (by assumption) (by assumption) | exact (xu_fresh (by assumption) (by assumption)).symm)).trans (by first | assumption | exact xu_s _ _ _ | exact (xu_n (by first | assumption | exact Ne.symm (by assumption) | exact xu_fresh (by assumption) (by assumption) | exact (xu_fresh (by assumption) (by assumption)).symm)).trans (by first | assumption | exact xu_s _ _ _)))) (hv1) (hv2) (by first | rfl | assumption) (by first | assumption | omega) (by first | decide | omega) ?_
  refine x_aload_n (M := mJ3_addLast) (pc := 24) dJ3_addLast_24 rfl ?_
  refine x_get (M := mJ3_addLast) (pc := 25) kcJ3 1 rfl q327 dJ3_addLast_25 (by first | assumption | exact xu_s _ _ _ | exact (xu_n (by first | assumption | exact Ne.symm (by assumption) | exact xu_fresh (by assumption) (by assumption) | exact (xu_fresh (by assumption) (by assumption)).symm)).trans (by first | assumption | exact xu_s _ _ _ | exact (xu_n (by first | assumption | exact Ne.symm (by assumption) | exact xu_fresh (by assumption) (by assumption) | exact (xu_fresh (by assumption) (by assumption)).symm)).trans (by first | assumption | exact xu_s _ _ _ | exact (xu_n (by first | assumption | exact Ne.symm (by assumption) | exact xu_fresh (by assumption) (by assumption) | exact (xu_fresh (by assumption) (by assumption)).symm)).trans (by first | assumption | exact xu_s _ _ _)))) rfl ?_
  refine x_aload_n (M := mJ3_addLast) (pc := 28) dJ3_addLast_28 rfl ?_
  refine x_aload_n (M := mJ3_addLast) (pc := 29) dJ3_addLast_29 rfl ?_
  refine x_get (M := mJ3_addLast) (pc := 30) kcJ3 2 rfl q328 dJ3_addLast_30 (by first | assumption | exact xu_s _ _ _ | exact (xu_n (by first | assumption | exact Ne.symm (by assumption) | exact xu_fresh (by assumption) (by assumption) | exact (xu_fresh (by assumption) (by assumption)).symm)).trans (by first | assumption | exact xu_s _ _ _ | exact (xu_n (by first | assumption | exact Ne.symm (by assumption) | exact xu_fresh (by assumption) (by assumption) | exact (xu_fresh (by assumption) (by assumption)).symm)).trans (by first | assumption | exact xu_s _ _ _ | exact (xu_n (by first | assumption | exact Ne.symm (by assumption) | exact xu_fresh (by assumption) (by assumption) | exact (xu_fresh (by assumption) (by assumption)).symm)).trans (by first | assumption | exact xu_s _ _ _)))) rfl ?_
  refine x_aload_n (M := mJ3_addLast) (pc := 33) dJ3_addLast_33 rfl ?_
  refine x_alen (M := mJ3_addLast) (pc := 34) dJ3_addLast_34 (by first | assumption | exact xu_s _ _ _ | exact (xu_n (by first | assumption | exact Ne.symm (by assumption) | exact xu_fresh (by assumption) (by assumption) | exact (xu_fresh (by assumption) (by assumption)).symm)).trans (by first | assumption | exact xu_s _ _ _ | exact (xu_n (by first | assumption | exact Ne.symm (by assumption) | exact xu_fresh (by assumption) (by assumption) | exact (xu_fresh (by assumption) (by assumption)).symm)).trans (by first | assumption | exact xu_s _ _ _ | exact (xu_n (by first | assumption | exact Ne.symm (by assumption) | exact xu_fresh (by assumption) (by assumption) | exact (xu_fresh (by assumption) (by assumption)).symm)).trans (by first | assumption | exact xu_s _ _ _)))) rfl ?_
  refine x_S2 (M := mJ3_addLast) (pc := 35) (M' := mJ3_inc) q1014 kSJ3_inc dJ3_addLast_35 (j_inc _ ((hd + xs.length) % 17) (d - 1) (by omega)) (fun v_ h hq_ => ?_)
  obtain ⟨hv_, rfl⟩ := hq_; cases hv_
  refine x_dup_x1 (M := mJ3_addLast) (pc := 38) dJ3_addLast_38 ?_
  first | refine x_put2' (M := mJ3_addLast) (pc := 39) kcJ3 q328 dJ3_addLast_39 ?_ | refine x_put2 (M := mJ3_addLast) (pc := 39) kcJ3 q328 dJ3_addLast_39 (by first | assumption | exact xu_s _ _ _ | exact (xu_n (by first | assumption | exact Ne.symm (by assumption) | exact xu_fresh (by assumption) (by assumption) | exact (xu_fresh (by assumption) (by assumption)).symm)).trans (by first | assumption | exact xu_s _ _ _ | exact (xu_n (by first | assumption | exact Ne.symm (by assumption) | exact xu_fresh (by assumption) (by assumption) | exact (xu_fresh (by assumption) (by assumption)).symm)).trans (by first | assumption | exact xu_s _ _ _ | exact (xu_n (by first | assumption | exact Ne.symm (by assumption) | exact xu_fresh (by assumption) (by assumption) | exact (xu_fresh (by assumption) (by assumption)).symm)).trans (by first | assumption | exact xu_s _ _ _)))) ?_
  first | with_reducible refine x_icmp_neN (M := mJ3_addLast) (pc := 42) 50 dJ3_addLast_42 (by decide) (by omega) (by omega) (fun c42 => ?_) (fun c42 => ?_) | refine x_icmp_ne (M := mJ3_addLast) (pc := 42) 50 dJ3_addLast_42 (by decide) (fun c42 => ?_) (fun c42 => ?_)
  · refine x_vret (M := mJ3_addLast) (pc := 50) dJ3_addLast_50 rfl (by first | exact Nat.le_of_ble_eq_true rfl | omega) (by first | exact Nat.le_of_ble_eq_true rfl | omega) ?_
    exact ⟨rfl, ⟨(xu_s _ _ _).trans (by rw [e1]), h1, (by simp only [List.length_append, List.length_cons, List.length_nil]; omega), h3, _, (xu_n h3).trans (xu_s _ _ _), hF⟩, fun b e n1 n2 hb => (xu_n n1).trans ((xu_n n2).trans hb)⟩
  · omega
theorem j_elementAt (h : xH) (arr i d : Nat) (f : Nat → Option Nat) (v : Nat) (hb : h arr = some (.inl (xdA g 3, 17, .inr (.inr (.inr (.inr f)))))) (hi : i < 17) (hv : f i = some v) : Ct g l mJ3_elementAt d 0 0 [.ref arr, .int (nI i)] h (fun o h' => o = .inl (some (.ref v)) ∧ h' = h) := by
  have hv : va_rf (f i) = .ref v := by rw [hv]; rfl
  refine Ct.of [some (.ref arr), some (.int (nI i))] (by decide +kernel) rfl (Nat.le_of_ble_eq_true rfl) rfl rfl ?_
  refine x_aload_n (M := mJ3_elementAt) (pc := 0) dJ3_elementAt_0 rfl ?_
  refine x_iload_n (M := mJ3_elementAt) (pc := 1) dJ3_elementAt_1 rfl ?_
  refine x_aaldN (M := mJ3_elementAt) (pc := 2) _ dJ3_elementAt_2 (by first | assumption | exact xu_s _ _ _ | exact (xu_n (by first | assumption | exact Ne.symm (by assumption) | exact xu_fresh (by assumption) (by assumption) | exact (xu_fresh (by assumption) (by assumption)).symm)).trans (by first | assumption | exact xu_s _ _ _ | exact (xu_n (by first | assumption | exact Ne.symm (by assumption) | exact xu_fresh (by assumption) (by assumption) | exact (xu_fresh (by assumption) (by assumption)).symm)).trans (by first | assumption | exact xu_s _ _ _ | exact (xu_n (by first | assumption | exact Ne.symm (by assumption) | exact xu_fresh (by assumption) (by assumption) | exact (xu_fresh (by assumption) (by assumption)).symm)).trans (by first | assumption | exact xu_s _ _ _)))) (by first | rfl | assumption) (by first | assumption | omega) (by first | decide | omega) (hv) ?_
  refine x_aret (M := mJ3_elementAt) (pc := 3) dJ3_elementAt_3 rfl (by first | exact Or.inl ⟨_, rfl⟩ | exact Or.inr ⟨_, rfl⟩) (by first | exact Nat.le_of_ble_eq_true rfl | omega) (by first | exact Nat.le_of_ble_eq_true rfl | omega) ?_
  exact ⟨rfl, rfl⟩
theorem j_pollFirst (h : xH) (a arr hd d v : Nat) (xs : List Nat) (hd1 : 1 ≤ d) (hA : DQ g h a arr hd (v :: xs)) : Ct g l mJ3_pollFirst d 0 0 [.ref a] h (fun o h' => o = .inl (some (.ref v)) ∧ DQ g h' a arr ((hd + 1) % 17) xs ∧ xle2 a arr h h') := by
  obtain ⟨ha, h1, h2, h3, f, hb, h4⟩ := hA
  simp only [List.length_cons] at ha h2 h4
  have hv := h4 0 (by omega)
  rw [Nat.add_zero, Nat.mod_eq_of_lt h1] at hv
  refine Ct.of [some (.ref a), none, none, none] (by decide +kernel) rfl (Nat.le_of_ble_eq_true rfl) rfl rfl ?_
  refine x_aload_n (M := mJ3_pollFirst) (pc := 0) dJ3_pollFirst_0 rfl ?_
  refine x_get (M := mJ3_pollFirst) (pc := 1) kcJ3 0 rfl q324 dJ3_pollFirst_1 (by first | assumption | exact xu_s _ _ _ | exact (xu_n (by first | assumption | exact Ne.symm (by assumption) | exact xu_fresh (by assumption) (by assumption) | exact (xu_fresh (by assumption) (by assumption)).symm)).trans (by first | assumption | exact xu_s _ _ _ | exact (xu_n (by first | assumption | exact Ne.symm (by assumption) | exact xu_fresh (by assumption) (by assumption) | exact (xu_fresh (by assumption) (by assumption)).symm)).trans (by first | assumption | exact xu_s _ _ _ | exact (xu_n (by first | assumption | exact Ne.symm (by assumption) | exact xu_fresh (by assumption) (by assumption) | exact (xu_fresh (by assumption) (by assumption)).symm)).trans (by first | assumption | exact xu_s _ _ _)))) rfl ?_
  refine x_dup (M := mJ3_pollFirst) (pc := 4) dJ3_pollFirst_4 ?_
  refine x_astore1 (M := mJ3_pollFirst) (pc := 5) dJ3_pollFirst_5 ?_
  refine x_aload_n (M := mJ3_pollFirst) (pc := 6) dJ3_pollFirst_6 rfl ?_
  refine x_get (M := mJ3_pollFirst) (pc := 7) kcJ3 1 rfl q327 dJ3_pollFirst_7 (by first | assumption | exact xu_s _ _ _ | exact (xu_n (by first | assumption | exact Ne.symm (by assumption) | exact xu_fresh (by assumption) (by assumption) | exact (xu_fresh (by assumption) (by assumption)).symm)).trans (by first | assumption | exact xu_s _ _ _ | exact (xu_n (by first | assumption | exact Ne.symm (by assumption) | exact xu_fresh (by assumption) (by assumption) | exact (xu_fresh (by assumption) (by assumption)).symm)).trans (by first | assumption | exact xu_s _ _ _ | exact (xu_n (by first | assumption | exact Ne.symm (by assumption) | exact xu_fresh (by assumption) (by assumption) | exact (xu_fresh (by assumption) (by assumption)).symm)).trans (by first | assumption | exact xu_s _ _ _)))) rfl ?_
  refine x_dup (M := mJ3_pollFirst) (pc := 10) dJ3_pollFirst_10 ?_
  refine x_istore2 (M := mJ3_pollFirst) (pc := 11) dJ3_pollFirst_11 ?_
  refine x_S2 (M := mJ3_pollFirst) (pc := 12) (M' := mJ3_elementAt) q1011 kSJ3_elementAt dJ3_pollFirst_12 (j_elementAt h arr hd (d - 1) f v hb h1 hv) (fun v_ h hq_ => ?_)
  obtain ⟨hv_, rfl⟩ := hq_; cases hv_
  refine x_astore3 (M := mJ3_pollFirst) (pc := 15) dJ3_pollFirst_15 ?_
  skip
  refine x_aload_n (M := mJ3_pollFirst) (pc := 16) dJ3_pollFirst_16 rfl ?_
  refine x_ifnullR (M := mJ3_pollFirst) (pc := 17) dJ3_pollFirst_17 ?_
  refine x_aload_n (M := mJ3_pollFirst) (pc := 20) dJ3_pollFirst_20 rfl ?_
  refine x_iload_n (M := mJ3_pollFirst) (pc := 21) dJ3_pollFirst_21 rfl ?_
  refine x_null (M := mJ3_pollFirst) (pc := 22) dJ3_pollFirst_22 ?_
  refine x_aastZ (M := mJ3_pollFirst) (pc := 23) _ dJ3_pollFirst_23 (by first | assumption | exact xu_s _ _ _ | exact (xu_n (by first | assumption | exact Ne.symm (by assumption) | exact xu_fresh (by assumption) (by assumption) | exact (xu_fresh (by assumption) (by assumption)).symm)).trans (by first | assumption | exact xu_s _ _ _ | exact (xu_n (by first | assumption | exact Ne.symm (by assumption) | exact xu_fresh (by assumption) (by assumption) | exact (xu_fresh (by assumption) (by assumption)).symm)).trans (by first | assumption | exact xu_s _ _ _ | exact (xu_n (by first | assumption | exact Ne.symm (by assumption) | exact xu_fresh (by assumption) (by assumption) | exact (xu_fresh (by assumption) (by assumption)).symm)).trans (by first | assumption | exact xu_s _ _ _)))) (by first | rfl | assumption) (by first | assumption | omega) (by first | decide | omega) ?_
  refine x_aload_n (M := mJ3_pollFirst) (pc := 24) dJ3_pollFirst_24 rfl ?_
  refine x_iload_n (M := mJ3_pollFirst) (pc := 25) dJ3_pollFirst_25 rfl ?_
  refine x_aload_n (M := mJ3_pollFirst) (pc := 26) dJ3_pollFirst_26 rfl ?_
  refine x_alen (M := mJ3_pollFirst) (pc := 27) dJ3_pollFirst_27 (by first | assumption | exact xu_s _ _ _ | exact (xu_n (by first | assumption | exact Ne.symm (by assumption) | exact xu_fresh (by assumption) (by assumption) | exact (xu_fresh (by assumption) (by assumption)).symm)).trans (by first | assumption | exact xu_s _ _ _ | exact (xu_n (by first | assumption | exact Ne.symm (by assumption) | exact xu_fresh (by assumption) (by assumption) | exact (xu_fresh (by assumption) (by assumption)).symm)).trans (by first | assumption | exact xu_s _ _ _ | exact (xu_n (by first | assumption | exact Ne.symm (by assumption) | exact xu_fresh (by assumption) (by assumption) | exact (xu_fresh (by assumption) (by assumption)).symm)).trans (by first | assumption | exact xu_s _ _ _)))) rfl ?_
  refine x_S2 (M := mJ3_pollFirst) (pc := 28) (M' := mJ3_inc) q1014 kSJ3_inc dJ3_pollFirst_28 (j_inc _ hd (d - 1) h1) (fun v_ h hq_ => ?_)
  obtain ⟨hv_, rfl⟩ := hq_; cases hv_
  first | refine x_put1' (M := mJ3_pollFirst) (pc := 31) kcJ3 q327 dJ3_pollFirst_31 ?_ | refine x_put1 (M := mJ3_pollFirst) (pc := 31) kcJ3 q327 dJ3_pollFirst_31 (by first | assumption | exact xu_s _ _ _ | exact (xu_n (by first | assumption | exact Ne.symm (by assumption) | exact xu_fresh (by assumption) (by assumption) | exact (xu_fresh (by assumption) (by assumption)).symm)).trans (by first | assumption | exact xu_s _ _ _ | exact (xu_n (by first | assumption | exact Ne.symm (by assumption) | exact xu_fresh (by assumption) (by assumption) | exact (xu_fresh (by assumption) (by assumption)).symm)).trans (by first | assumption | exact xu_s _ _ _ | exact (xu_n (by first | assumption | exact Ne.symm (by assumption) | exact xu_fresh (by assumption) (by assumption) | exact (xu_fresh (by assumption) (by assumption)).symm)).trans (by first | assumption | exact xu_s _ _ _)))) ?_
  refine x_aload_n (M := mJ3_pollFirst) (pc := 34) dJ3_pollFirst_34 rfl ?_
  refine x_aret (M := mJ3_pollFirst) (pc := 35) dJ3_pollFirst_35 rfl (by first | exact Or.inl ⟨_, rfl⟩ | exact Or.inr ⟨_, rfl⟩) (by first | exact Nat.le_of_ble_eq_true rfl | omega) (by first | exact Nat.le_of_ble_eq_true rfl | omega) ?_
  refine ⟨rfl, ⟨(xu_s _ _ _).trans (by rw [show ((hd + 1) % 17 + xs.length) % 17 = (hd + (xs.length + 1)) % 17 by omega]), by omega, by omega, h3, va_up f hd none, (xu_n h3).trans (xu_s _ _ _), fun i hi => ?_⟩, fun b e n1 n2 hb => (xu_n n1).trans ((xu_n n2).trans hb)⟩
  have := h4 (i + 1) (by omega)
  rw [show ((hd + 1) % 17 + i) % 17 = (hd + (i + 1)) % 17 by omega]
  simp only [va_up]
  rw [if_neg (by omega), this]; simp
theorem j_removeFirst (h : xH) (a arr hd d v : Nat) (xs : List Nat) (hd1 : 2 ≤ d) (hA : DQ g h a arr hd (v :: xs)) : Ct g l mJ3_removeFirst d 0 0 [.ref a] h (fun o h' => o = .inl (some (.ref v)) ∧ DQ g h' a arr ((hd + 1) % 17) xs ∧ xle2 a arr h h') := by
  refine Ct.of [some (.ref a), none] (by decide +kernel) rfl (Nat.le_of_ble_eq_true rfl) rfl rfl ?_
  refine x_aload_n (M := mJ3_removeFirst) (pc := 0) dJ3_removeFirst_0 rfl ?_
  refine x_V0 (M := mJ3_removeFirst) (pc := 1) (M' := mJ3_pollFirst) q1007 kVJ3_pollFirst dJ3_removeFirst_1 (j_pollFirst h a arr hd (d - 1) v xs (by omega) hA) (hA.is) (fun v_ h hq_ => ?_)
  obtain ⟨hv_, w1, w2⟩ := hq_; cases hv_
  refine x_astore1 (M := mJ3_removeFirst) (pc := 4) dJ3_removeFirst_4 ?_
  skip
  refine x_aload_n (M := mJ3_removeFirst) (pc := 5) dJ3_removeFirst_5 rfl ?_
  refine x_ifnonnullR (M := mJ3_removeFirst) (pc := 6) 17 dJ3_removeFirst_6 (by decide) ?_
  refine x_aload_n (M := mJ3_removeFirst) (pc := 17) dJ3_removeFirst_17 rfl ?_
  refine x_aret (M := mJ3_removeFirst) (pc := 18) dJ3_removeFirst_18 rfl (by first | exact Or.inl ⟨_, rfl⟩ | exact Or.inr ⟨_, rfl⟩) (by first | exact Nat.le_of_ble_eq_true rfl | omega) (by first | exact Nat.le_of_ble_eq_true rfl | omega) ?_
  exact ⟨rfl, w1, w2⟩
theorem j_pollLast (h : xH) (a arr hd d v : Nat) (xs : List Nat) (hd1 : 1 ≤ d) (hA : DQ g h a arr hd (xs ++ [v])) : Ct g l mJ3_pollLast d 0 0 [.ref a] h (fun o h' => o = .inl (some (.ref v)) ∧ DQ g h' a arr hd xs ∧ xle2 a arr h h') := by
  obtain ⟨ha, h1, h2, h3, f, hb, h4⟩ := hA
  simp only [List.length_append, List.length_cons, List.length_nil] at ha h2 h4
  have hv := h4 xs.length (by omega)
  rw [getD_last] at hv
  have et : ((hd + (xs.length + (0 + 1))) % 17 + 16) % 17 = (hd + xs.length) % 17 := by omega
  refine Ct.of [some (.ref a), none, none, none] (by decide +kernel) rfl (Nat.le_of_ble_eq_true rfl) rfl rfl ?_
  refine x_aload_n (M := mJ3_pollLast) (pc := 0) dJ3_pollLast_0 rfl ?_
  refine x_get (M := mJ3_pollLast) (pc := 1) kcJ3 0 rfl q324 dJ3_pollLast_1 (by first | assumption | exact xu_s _ _ _ | exact (xu_n (by first | assumption | exact Ne.symm (by assumption) | exact xu_fresh (by assumption) (by assumption) | exact (xu_fresh (by assumption) (by assumption)).symm)).trans (by first | assumption | exact xu_s _ _ _ | exact (xu_n (by first | assumption | exact Ne.symm (by assumption) | exact xu_fresh (by assumption) (by assumption) | exact (xu_fresh (by assumption) (by assumption)).symm)).trans (by first | assumption | exact xu_s _ _ _ | exact (xu_n (by first | assumption | exact Ne.symm (by assumption) | exact xu_fresh (by assumption) (by assumption) | exact (xu_fresh (by assumption) (by assumption)).symm)).trans (by first | assumption | exact xu_s _ _ _)))) rfl ?_
  refine x_dup (M := mJ3_pollLast) (pc := 4) dJ3_pollLast_4 ?_
  refine x_astore1 (M := mJ3_pollLast) (pc := 5) dJ3_pollLast_5 ?_
  refine x_aload_n (M := mJ3_pollLast) (pc := 6) dJ3_pollLast_6 rfl ?_
  refine x_get (M := mJ3_pollLast) (pc := 7) kcJ3 2 rfl q328 dJ3_pollLast_7 (by first | assumption | exact xu_s _ _ _ | exact (xu_n (by first | assumption | exact Ne.symm (by assumption) | exact xu_fresh (by assumption) (by assumption) | exact (xu_fresh (by assumption) (by assumption)).symm)).trans (by first | assumption | exact xu_s _ _ _ | exact (xu_n (by first | assumption | exact Ne.symm (by assumption) | exact xu_fresh (by assumption) (by assumption) | exact (xu_fresh (by assumption) (by assumption)).symm)).trans (by first | assumption | exact xu_s _ _ _ | exact (xu_n (by first | assumption | exact Ne.symm (by assumption) | exact xu_fresh (by assumption) (by assumption) | exact (xu_fresh (by assumption) (by assumption)).symm)).trans (by first | assumption | exact xu_s _ _ _)))) rfl ?_
  refine x_aload_n (M := mJ3_pollLast) (pc := 10) dJ3_pollLast_10 rfl ?_
  refine x_alen (M := mJ3_pollLast) (pc := 11) dJ3_pollLast_11 (by first | assumption | exact xu_s _ _ _ | exact (xu_n (by first | assumption | exact Ne.symm (by assumption) | exact xu_fresh (by assumption) (by assumption) | exact (xu_fresh (by assumption) (by assumption)).symm)).trans (by first | assumption | exact xu_s _ _ _ | exact (xu_n (by first | assumption | exact Ne.symm (by assumption) | exact xu_fresh (by assumption) (by assumption) | exact (xu_fresh (by assumption) (by assumption)).symm)).trans (by first | assumption | exact xu_s _ _ _ | exact (xu_n (by first | assumption | exact Ne.symm (by assumption) | exact xu_fresh (by assumption) (by assumption) | exact (xu_fresh (by assumption) (by assumption)).symm)).trans (by first | assumption | exact xu_s _ _ _)))) rfl ?_
  refine x_S2 (M := mJ3_pollLast) (pc := 12) (M' := mJ3_dec) q1604 kSJ3_dec dJ3_pollLast_12 (j_dec h ((hd + (xs.length + (0 + 1))) % 17) (d - 1) (by omega)) (fun v_ h hq_ => ?_)
  obtain ⟨hv_, rfl⟩ := hq_; cases hv_; refine x_val (M := mJ3_pollLast) (pc := 15) (congrArg nI et) ?_
  refine x_dup (M := mJ3_pollLast) (pc := 15) dJ3_pollLast_15 ?_
  refine x_istore2 (M := mJ3_pollLast) (pc := 16) dJ3_pollLast_16 ?_
  refine x_S2 (M := mJ3_pollLast) (pc := 17) (M' := mJ3_elementAt) q1011 kSJ3_elementAt dJ3_pollLast_17 (j_elementAt h arr ((hd + xs.length) % 17) (d - 1) f v hb (by omega) hv) (fun v_ h hq_ => ?_)
  obtain ⟨hv_, rfl⟩ := hq_; cases hv_
  refine x_astore3 (M := mJ3_pollLast) (pc := 20) dJ3_pollLast_20 ?_
  skip
  refine x_aload_n (M := mJ3_pollLast) (pc := 21) dJ3_pollLast_21 rfl ?_
  refine x_ifnullR (M := mJ3_pollLast) (pc := 22) dJ3_pollLast_22 ?_
  refine x_aload_n (M := mJ3_pollLast) (pc := 25) dJ3_pollLast_25 rfl ?_
  refine x_aload_n (M := mJ3_pollLast) (pc := 26) dJ3_pollLast_26 rfl ?_
  refine x_iload_n (M := mJ3_pollLast) (pc := 27) dJ3_pollLast_27 rfl ?_
  refine x_dup_x1 (M := mJ3_pollLast) (pc := 28) dJ3_pollLast_28 ?_
  first | refine x_put2' (M := mJ3_pollLast) (pc := 29) kcJ3 q328 dJ3_pollLast_29 ?_ | refine x_put2 (M := mJ3_pollLast) (pc := 29) kcJ3 q328 dJ3_pollLast_29 (by first | assumption | exact xu_s _ _ _ | exact (xu_n (by first | assumption | exact Ne.symm (by assumption) | exact xu_fresh (by assumption) (by assumption) | exact (xu_fresh (by assumption) (by assumption)).symm)).trans (by first | assumption | exact xu_s _ _ _ | exact (xu_n (by first | assumption | exact Ne.symm (by assumption) | exact xu_fresh (by assumption) (by assumption) | exact (xu_fresh (by assumption) (by assumption)).symm)).trans (by first | assumption | exact xu_s _ _ _ | exact (xu_n (by first | assumption | exact Ne.symm (by assumption) | exact xu_fresh (by assumption) (by assumption) | exact (xu_fresh (by assumption) (by assumption)).symm)).trans (by first | assumption | exact xu_s _ _ _)))) ?_
  refine x_null (M := mJ3_pollLast) (pc := 32) dJ3_pollLast_32 ?_
  refine x_aastZ (M := mJ3_pollLast) (pc := 33) _ dJ3_pollLast_33 (by first | assumption | exact xu_s _ _ _ | exact (xu_n (by first | assumption | exact Ne.symm (by assumption) | exact xu_fresh (by assumption) (by assumption) | exact (xu_fresh (by assumption) (by assumption)).symm)).trans (by first | assumption | exact xu_s _ _ _ | exact (xu_n (by first | assumption | exact Ne.symm (by assumption) | exact xu_fresh (by assumption) (by assumption) | exact (xu_fresh (by assumption) (by assumption)).symm)).trans (by first | assumption | exact xu_s _ _ _ | exact (xu_n (by first | assumption | exact Ne.symm (by assumption) | exact xu_fresh (by assumption) (by assumption) | exact (xu_fresh (by assumption) (by assumption)).symm)).trans (by first | assumption | exact xu_s _ _ _)))) (by first | rfl | assumption) (by first | assumption | omega) (by first | decide | omega) ?_
  refine x_aload_n (M := mJ3_pollLast) (pc := 34) dJ3_pollLast_34 rfl ?_
  refine x_aret (M := mJ3_pollLast) (pc := 35) dJ3_pollLast_35 rfl (by first | exact Or.inl ⟨_, rfl⟩ | exact Or.inr ⟨_, rfl⟩) (by first | exact Nat.le_of_ble_eq_true rfl | omega) (by first | exact Nat.le_of_ble_eq_true rfl | omega) ?_
  refine ⟨rfl, ⟨(xu_n (Ne.symm h3)).trans (xu_s _ _ _), h1, by omega, h3, _, xu_s _ _ _, fun i hi => ?_⟩, fun b e n1 n2 hb => (xu_n n2).trans ((xu_n n1).trans hb)⟩
  simp only [va_up]
  rw [if_neg (by omega), h4 i (by omega), getD_app _ _ _ hi]
theorem j_removeLast (h : xH) (a arr hd d v : Nat) (xs : List Nat) (hd1 : 2 ≤ d) (hA : DQ g h a arr hd (xs ++ [v])) : Ct g l mJ3_removeLast d 0 0 [.ref a] h (fun o h' => o = .inl (some (.ref v)) ∧ DQ g h' a arr hd xs ∧ xle2 a arr h h') := by
  refine Ct.of [some (.ref a), none] (by decide +kernel) rfl (Nat.le_of_ble_eq_true rfl) rfl rfl ?_
  refine x_aload_n (M := mJ3_removeLast) (pc := 0) dJ3_removeLast_0 rfl ?_
  refine x_V0 (M := mJ3_removeLast) (pc := 1) (M' := mJ3_pollLast) q1600 kVJ3_pollLast dJ3_removeLast_1 (j_pollLast h a arr hd (d - 1) v xs (by omega) hA) (hA.is) (fun v_ h hq_ => ?_)
  obtain ⟨hv_, w1, w2⟩ := hq_; cases hv_
  refine x_astore1 (M := mJ3_removeLast) (pc := 4) dJ3_removeLast_4 ?_
  skip
  refine x_aload_n (M := mJ3_removeLast) (pc := 5) dJ3_removeLast_5 rfl ?_
  refine x_ifnonnullR (M := mJ3_removeLast) (pc := 6) 17 dJ3_removeLast_6 (by decide) ?_
  refine x_aload_n (M := mJ3_removeLast) (pc := 17) dJ3_removeLast_17 rfl ?_
  refine x_aret (M := mJ3_removeLast) (pc := 18) dJ3_removeLast_18 rfl (by first | exact Or.inl ⟨_, rfl⟩ | exact Or.inr ⟨_, rfl⟩) (by first | exact Nat.le_of_ble_eq_true rfl | omega) (by first | exact Nat.le_of_ble_eq_true rfl | omega) ?_
  exact ⟨rfl, w1, w2⟩
end JDKDQ

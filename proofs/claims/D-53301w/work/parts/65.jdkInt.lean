/-! java.lang.Integer, String constants -/
section JDKINT
set_option maxRecDepth 100000
variable {g : xG} {l : Launch} {h : xH}
theorem box_tab : ((List.range 256).all fun k => decide (Int32.ofInt ((k : Int) - 128) = vb_c k ∧ Int32.ofInt ((k : Int) - 128) + nI 128 = nI k)) = true := by decide +kernel
theorem box_k {v : Int32} (h1 : ¬ v < -128) (h2 : ¬ 127 < v) : ∃ k, k < 256 ∧ v = vb_c k ∧ v + nI 128 = nI k := by
  have a1 : (-128 : Int) ≤ v.toInt := by
    have := Int32.le_iff_toInt_le.mp (Int32.not_lt.mp h1)
    rw [show (-128 : Int32).toInt = -128 by decide] at this; exact this
  have a2 : v.toInt ≤ 127 := by
    have := Int32.le_iff_toInt_le.mp (Int32.not_lt.mp h2)
    rw [show (127 : Int32).toInt = 127 by decide] at this; exact this
  have hk : (v.toInt + 128).toNat < 256 := by omega
  have e : v = Int32.ofInt (((v.toInt + 128).toNat : Int) - 128) := by
    rw [Int.toNat_of_nonneg (by omega), show v.toInt + 128 - 128 = v.toInt by omega]
    exact (Int32.ofInt_toInt v).symm
  have ht := of_decide_eq_true (rg box_tab hk)
  refine ⟨(v.toInt + 128).toNat, hk, e.trans ht.1, ?_⟩
  rw [← ht.2, ← e]
theorem j_numInit (h : xH) (a d : Nat) (hd : 1 ≤ d) : Ct g l mJ9_init d 0 0 [.ref a] h (fun o h' => o = .inl none ∧ h' = h) := by
  refine Ct.of [some (.ref a)] (by decide +kernel) rfl (Nat.le_of_ble_eq_true rfl) rfl rfl ?_
  refine x_aload_n (M := mJ9_init) (pc := 0) dJ9_init_0 rfl ?_
  refine x_objInit (M := mJ9_init) (pc := 1) q2493 dJ9_init_1 (by first | exact Nat.le_of_ble_eq_true rfl | omega) (by first | exact Nat.le_of_ble_eq_true rfl | (simp [xcat_rf, Value.category])) ?_
  refine x_vret (M := mJ9_init) (pc := 4) dJ9_init_4 rfl (by first | exact Nat.le_of_ble_eq_true rfl | omega) (by first | exact Nat.le_of_ble_eq_true rfl | omega) ?_
  exact ⟨rfl, rfl⟩
theorem j_intInit (h : xH) (a d : Nat) (v w : Int32) (hd : 2 ≤ d) (ha : h a = some (.inr (31, [.int w]))) : Ct g l mJ10_init d 0 0 [.ref a, .int v] h (fun o h' => o = .inl none ∧ h' = xu h a (.inr (31, [.int v]))) := by
  refine Ct.of [some (.ref a), some (.int v)] (by decide +kernel) rfl (Nat.le_of_ble_eq_true rfl) rfl rfl ?_
  refine x_aload_n (M := mJ10_init) (pc := 0) dJ10_init_0 rfl ?_
  refine x_I0 (M := mJ10_init) (pc := 1) (M' := mJ9_init) q2490 kIJ9_init dJ10_init_1 (j_numInit h a (d - 1) (by omega)) (fun v_ h hq_ => ?_)
  obtain ⟨hv_, rfl⟩ := hq_; cases hv_
  refine x_aload_n (M := mJ10_init) (pc := 4) dJ10_init_4 rfl ?_
  refine x_iload_n (M := mJ10_init) (pc := 5) dJ10_init_5 rfl ?_
  first | refine x_putF0' (M := mJ10_init) (pc := 6) kcJ10 q2494 dJ10_init_6 ?_ | refine x_putF0 (M := mJ10_init) (pc := 6) kcJ10 q2494 dJ10_init_6 (by first | assumption | exact xu_s _ _ _ | exact (xu_n (by first | assumption | exact Ne.symm (by assumption) | exact xu_fresh (by assumption) (by assumption) | exact (xu_fresh (by assumption) (by assumption)).symm)).trans (by first | assumption | exact xu_s _ _ _ | exact (xu_n (by first | assumption | exact Ne.symm (by assumption) | exact xu_fresh (by assumption) (by assumption) | exact (xu_fresh (by assumption) (by assumption)).symm)).trans (by first | assumption | exact xu_s _ _ _ | exact (xu_n (by first | assumption | exact Ne.symm (by assumption) | exact xu_fresh (by assumption) (by assumption) | exact (xu_fresh (by assumption) (by assumption)).symm)).trans (by first | assumption | exact xu_s _ _ _)))) ?_
  refine x_vret (M := mJ10_init) (pc := 9) dJ10_init_9 rfl (by first | exact Nat.le_of_ble_eq_true rfl | omega) (by first | exact Nat.le_of_ble_eq_true rfl | omega) ?_
  exact ⟨rfl, rfl⟩
theorem j_valueOf (h : xH) (v : Int32) (d : Nat) (hd : 3 ≤ d) : Ct g l mJ10_valueOf d 1 1 [.int v] h (fun o h' => ∃ q, o = .inl (some (.ref q)) ∧ IV g h' q v ∧ xle h h') := by
  have new : X g l mJ10_valueOf d 1 1 (fun o h' => ∃ q, o = .inl (some (.ref q)) ∧ IV g h' q v ∧ xle h h') 23 [some (.int v)] [] h 0 0 := by
    refine x_new (M := mJ10_valueOf) (pc := 23) kcJ10 q2238 dJ10_valueOf_23 (by first | exact Nat.le_of_ble_eq_true rfl | omega) (by first | exact Nat.le_of_ble_eq_true rfl | omega) (fun q23_ hq23_ hb23_ => ?_)
    (try simp only [xu_noneI] at hq23_)
    repeat (obtain ⟨_, hq23_⟩ : _ ∧ _ := hq23_)
    refine x_dup (M := mJ10_valueOf) (pc := 26) dJ10_valueOf_26 ?_
    refine x_iload_n (M := mJ10_valueOf) (pc := 27) dJ10_valueOf_27 rfl ?_
    refine x_I1 (M := mJ10_valueOf) (pc := 28) (M' := mJ10_init) q2487 kIJ10_init dJ10_valueOf_28 (j_intInit _ q23_ (d - 1) v 0 (by omega) (xu_s _ _ _)) (fun v_ h hq_ => ?_)
    obtain ⟨hv_, rfl⟩ := hq_; cases hv_
    refine x_aret (M := mJ10_valueOf) (pc := 31) dJ10_valueOf_31 rfl (by first | exact Or.inl ⟨_, rfl⟩ | exact Or.inr ⟨_, rfl⟩) (by first | exact Nat.le_of_ble_eq_true rfl | omega) (by first | exact Nat.le_of_ble_eq_true rfl | omega) ?_
    exact ⟨q23_, rfl, Or.inl (xu_s _ _ _), by rw [xu_xu]; exact xle.fr hq23_⟩
  refine Ct.of [some (.int v)] (by decide +kernel) rfl (Nat.le_of_ble_eq_true rfl) rfl rfl ?_
  refine x_iload_n (M := mJ10_valueOf) (pc := 0) dJ10_valueOf_0 rfl ?_
  refine x_bipush (M := mJ10_valueOf) (pc := 1) (v := (-128)) dJ10_valueOf_1 (by decide) ?_
  refine x_icmp_lt (M := mJ10_valueOf) (pc := 3) 23 dJ10_valueOf_3 (by decide) (fun r_3 => ?_) (fun r_3 => ?_)
  · exact new
  · refine x_iload_n (M := mJ10_valueOf) (pc := 6) dJ10_valueOf_6 rfl ?_
    refine x_gets (M := mJ10_valueOf) (pc := 7) 3 q2482 dJ10_valueOf_7 rfl ?_
    refine x_icmp_gt (M := mJ10_valueOf) (pc := 10) 23 dJ10_valueOf_10 (by decide) (fun r_10 => ?_) (fun r_10 => ?_)
    · exact new
    · obtain ⟨k, hk, e1, e2⟩ := box_k r_3 r_10
      refine x_gets (M := mJ10_valueOf) (pc := 13) 2 q2484 dJ10_valueOf_13 rfl ?_
      refine x_iload_n (M := mJ10_valueOf) (pc := 16) dJ10_valueOf_16 rfl ?_
      refine x_sipush (M := mJ10_valueOf) (pc := 17) (v := nI 128) dJ10_valueOf_17 (by decide) ?_
      refine x_iadd (M := mJ10_valueOf) (pc := 20) dJ10_valueOf_20 ?_
      rw [e2]
      refine x_aaldI (M := mJ10_valueOf) (pc := 21) k hk dJ10_valueOf_21 ?_
      refine x_aret (M := mJ10_valueOf) (pc := 22) dJ10_valueOf_22 rfl (by first | exact Or.inl ⟨_, rfl⟩ | exact Or.inr ⟨_, rfl⟩) (by first | exact Nat.le_of_ble_eq_true rfl | omega) (by first | exact Nat.le_of_ble_eq_true rfl | omega) ?_
      exact ⟨_, rfl, Or.inr ⟨k, hk, rfl, e1⟩, xle.rf⟩
theorem j_intValue (h : xH) (a d : Nat) (v : Int32) (hv : IV g h a v) : Ct g l mJ10_intValue d 0 0 [.ref a] h (fun o h' => o = .inl (some (.int v)) ∧ h' = h) := by
  refine Ct.of [some (.ref a)] (by decide +kernel) rfl (Nat.le_of_ble_eq_true rfl) rfl rfl ?_
  refine x_aload_n (M := mJ10_intValue) (pc := 0) dJ10_intValue_0 rfl ?_
  refine x_getI (M := mJ10_intValue) (pc := 1) hv q2494 dJ10_intValue_1 ?_
  refine x_iret (M := mJ10_intValue) (pc := 4) dJ10_intValue_4 rfl (by first | exact Nat.le_of_ble_eq_true rfl | omega) (by first | exact Nat.le_of_ble_eq_true rfl | omega) ?_
  exact ⟨rfl, rfl⟩
def cmpI (a b : Int32) : Int32 := if a < b then -1 else if a = b then 0 else 1
theorem j_compare (h : xH) (a b : Int32) (d : Nat) : Ct g l mJ10_compare d 0 0 [.int a, .int b] h (fun o h' => o = .inl (some (.int (cmpI a b))) ∧ h' = h) := by
  refine Ct.of [some (.int a), some (.int b)] (by decide +kernel) rfl (Nat.le_of_ble_eq_true rfl) rfl rfl ?_
  refine x_iload_n (M := mJ10_compare) (pc := 0) dJ10_compare_0 rfl ?_
  refine x_iload_n (M := mJ10_compare) (pc := 1) dJ10_compare_1 rfl ?_
  refine x_icmp_ge (M := mJ10_compare) (pc := 2) 9 dJ10_compare_2 (by decide) (fun r_2 => ?_) (fun r_2 => ?_)
  · have n2 : ¬ a < b := Int32.not_lt.mpr r_2
    refine x_iload_n (M := mJ10_compare) (pc := 9) dJ10_compare_9 rfl ?_
    refine x_iload_n (M := mJ10_compare) (pc := 10) dJ10_compare_10 rfl ?_
    refine x_icmp_ne (M := mJ10_compare) (pc := 11) 18 dJ10_compare_11 (by decide) (fun r_11 => ?_) (fun r_11 => ?_)
    · refine x_iconst (M := mJ10_compare) (pc := 18) (v := nI 1) dJ10_compare_18 (by decide) ?_
      refine x_iret (M := mJ10_compare) (pc := 19) dJ10_compare_19 rfl (by first | exact Nat.le_of_ble_eq_true rfl | omega) (by first | exact Nat.le_of_ble_eq_true rfl | omega) ?_
      exact ⟨by unfold cmpI; rw [if_neg n2, if_neg r_11]; rfl, rfl⟩
    · refine x_iconst (M := mJ10_compare) (pc := 14) (v := nI 0) dJ10_compare_14 (by decide) ?_
      refine x_goto (M := mJ10_compare) (pc := 15) 19 dJ10_compare_15 (by decide) ?_
      refine x_iret (M := mJ10_compare) (pc := 19) dJ10_compare_19 rfl (by first | exact Nat.le_of_ble_eq_true rfl | omega) (by first | exact Nat.le_of_ble_eq_true rfl | omega) ?_
      exact ⟨by unfold cmpI; rw [if_neg n2, if_pos r_11]; rfl, rfl⟩
  · have n2 : a < b := by rw [Int32.not_le] at r_2; exact r_2
    refine x_iconst (M := mJ10_compare) (pc := 5) (v := (-1)) dJ10_compare_5 (by decide) ?_
    refine x_goto (M := mJ10_compare) (pc := 6) 19 dJ10_compare_6 (by decide) ?_
    refine x_iret (M := mJ10_compare) (pc := 19) dJ10_compare_19 rfl (by first | exact Nat.le_of_ble_eq_true rfl | omega) (by first | exact Nat.le_of_ble_eq_true rfl | omega) ?_
    exact ⟨by unfold cmpI; rw [if_pos n2], rfl⟩
theorem j_cmpTo2 (h : xH) (a b d : Nat) (v w : Int32) (hd : 1 ≤ d) (hv : IV g h a v) (hw : IV g h b w) : Ct g l mJ10_compareTo_2 d 0 0 [.ref a, .ref b] h (fun o h' => o = .inl (some (.int (cmpI v w))) ∧ h' = h) := by
  refine Ct.of [some (.ref a), some (.ref b)] (by decide +kernel) rfl (Nat.le_of_ble_eq_true rfl) rfl rfl ?_
  refine x_aload_n (M := mJ10_compareTo_2) (pc := 0) dJ10_compareTo_2_0 rfl ?_
  refine x_getI (M := mJ10_compareTo_2) (pc := 1) hv q2494 dJ10_compareTo_2_1 ?_
  refine x_aload_n (M := mJ10_compareTo_2) (pc := 4) dJ10_compareTo_2_4 rfl ?_
  refine x_getI (M := mJ10_compareTo_2) (pc := 5) hw q2494 dJ10_compareTo_2_5 ?_
  refine x_S2 (M := mJ10_compareTo_2) (pc := 8) (M' := mJ10_compare) q2243 kSJ10_compare dJ10_compareTo_2_8 (j_compare h v w (d - 1)) (fun v_ h hq_ => ?_)
  obtain ⟨hv_, rfl⟩ := hq_; cases hv_
  refine x_iret (M := mJ10_compareTo_2) (pc := 11) dJ10_compareTo_2_11 rfl (by first | exact Nat.le_of_ble_eq_true rfl | omega) (by first | exact Nat.le_of_ble_eq_true rfl | omega) ?_
  exact ⟨rfl, rfl⟩
theorem j_cmpTo (h : xH) (a b d : Nat) (v w : Int32) (hd : 2 ≤ d) (hv : IV g h a v) (hw : IV g h b w) : Ct g l mJ10_compareTo d 0 0 [.ref a, .ref b] h (fun o h' => o = .inl (some (.int (cmpI v w))) ∧ h' = h) := by
  refine Ct.of [some (.ref a), some (.ref b)] (by decide +kernel) rfl (Nat.le_of_ble_eq_true rfl) rfl rfl ?_
  refine x_aload_n (M := mJ10_compareTo) (pc := 0) dJ10_compareTo_0 rfl ?_
  refine x_aload_n (M := mJ10_compareTo) (pc := 1) dJ10_compareTo_1 rfl ?_
  refine x_cast (M := mJ10_compareTo) (pc := 2) q2238 dJ10_compareTo_2 (hw.is) (Or.inl rfl) ?_
  refine x_V1 (M := mJ10_compareTo) (pc := 5) (M' := mJ10_compareTo_2) q2239 kVJ10_compareTo_2 dJ10_compareTo_5 (j_cmpTo2 h a b (d - 1) v w (by omega) hv hw) (hv.is) (fun v_ h hq_ => ?_)
  obtain ⟨hv_, rfl⟩ := hq_; cases hv_
  refine x_iret (M := mJ10_compareTo) (pc := 8) dJ10_compareTo_8 rfl (by first | exact Nat.le_of_ble_eq_true rfl | omega) (by first | exact Nat.le_of_ble_eq_true rfl | omega) ?_
  exact ⟨rfl, rfl⟩
def ushI (x y : Int32) : Int32 := (x.toUInt32 >>> (y.toUInt32 &&& Int32.toUInt32 31)).toInt32
def bc1 (x : Int32) : Int32 := x - (ushI x (nI 1) &&& 1431655765)
def bc2 (x : Int32) : Int32 := (x &&& 858993459) + (ushI x (nI 2) &&& 858993459)
def bc3 (x : Int32) : Int32 := (x + ushI x (nI 4)) &&& 252645135
def bc4 (x : Int32) : Int32 := x + ushI x (nI 8)
def bc5 (x : Int32) : Int32 := x + ushI x (nI 16)
theorem bc_tab : ((List.range 1024).all fun k => decide (bc5 (bc4 (bc3 (bc2 (bc1 (nI k))))) &&& nI 63 = nI (p_ones 16 k))) = true := by decide +kernel
theorem j_bitCount (h : xH) (k d : Nat) (hk : k < 1024) : Ct g l mJ10_bitCount d 0 0 [.int (nI k)] h (fun o h' => o = .inl (some (.int (nI (p_ones 16 k)))) ∧ h' = h) := by
  rw [← of_decide_eq_true (rg bc_tab hk)]
  generalize nI k = x
  refine Ct.of [some (.int x)] (by decide +kernel) rfl (Nat.le_of_ble_eq_true rfl) rfl rfl ?_
  refine x_iload_n (M := mJ10_bitCount) (pc := 0) dJ10_bitCount_0 rfl ?_
  refine x_iload_n (M := mJ10_bitCount) (pc := 1) dJ10_bitCount_1 rfl ?_
  refine x_iconst (M := mJ10_bitCount) (pc := 2) (v := nI 1) dJ10_bitCount_2 (by decide) ?_
  refine x_iushr (M := mJ10_bitCount) (pc := 3) dJ10_bitCount_3 rfl ?_
  refine x_ldcw (M := mJ10_bitCount) (pc := 4) dJ10_bitCount_4 q623 ?_
  refine x_iand (M := mJ10_bitCount) (pc := 7) dJ10_bitCount_7 ?_
  first | with_reducible refine x_isubN (M := mJ10_bitCount) (pc := 8) dJ10_bitCount_8 (by omega) ?_ | refine x_isub (M := mJ10_bitCount) (pc := 8) dJ10_bitCount_8 ?_
  refine x_val (M := mJ10_bitCount) (pc := 9) (w := bc1 x) rfl ?_
  generalize bc1 x = y
  refine x_istore0 (M := mJ10_bitCount) (pc := 9) dJ10_bitCount_9 ?_
  refine x_iload_n (M := mJ10_bitCount) (pc := 10) dJ10_bitCount_10 rfl ?_
  refine x_ldcw (M := mJ10_bitCount) (pc := 11) dJ10_bitCount_11 q624 ?_
  refine x_iand (M := mJ10_bitCount) (pc := 14) dJ10_bitCount_14 ?_
  refine x_iload_n (M := mJ10_bitCount) (pc := 15) dJ10_bitCount_15 rfl ?_
  refine x_iconst (M := mJ10_bitCount) (pc := 16) (v := nI 2) dJ10_bitCount_16 (by decide) ?_
  refine x_iushr (M := mJ10_bitCount) (pc := 17) dJ10_bitCount_17 rfl ?_
  refine x_ldcw (M := mJ10_bitCount) (pc := 18) dJ10_bitCount_18 q624 ?_
  refine x_iand (M := mJ10_bitCount) (pc := 21) dJ10_bitCount_21 ?_
  first | with_reducible refine x_iaddN (M := mJ10_bitCount) (pc := 22) dJ10_bitCount_22 ?_ | refine x_iadd (M := mJ10_bitCount) (pc := 22) dJ10_bitCount_22 ?_
  refine x_val (M := mJ10_bitCount) (pc := 23) (w := bc2 y) rfl ?_
  generalize bc2 y = z
  refine x_istore0 (M := mJ10_bitCount) (pc := 23) dJ10_bitCount_23 ?_
  refine x_iload_n (M := mJ10_bitCount) (pc := 24) dJ10_bitCount_24 rfl ?_
  refine x_iload_n (M := mJ10_bitCount) (pc := 25) dJ10_bitCount_25 rfl ?_
  refine x_iconst (M := mJ10_bitCount) (pc := 26) (v := nI 4) dJ10_bitCount_26 (by decide) ?_
  refine x_iushr (M := mJ10_bitCount) (pc := 27) dJ10_bitCount_27 rfl ?_
  first | with_reducible refine x_iaddN (M := mJ10_bitCount) (pc := 28) dJ10_bitCount_28 ?_ | refine x_iadd (M := mJ10_bitCount) (pc := 28) dJ10_bitCount_28 ?_
  refine x_ldcw (M := mJ10_bitCount) (pc := 29) dJ10_bitCount_29 q625 ?_
  refine x_iand (M := mJ10_bitCount) (pc := 32) dJ10_bitCount_32 ?_
  refine x_val (M := mJ10_bitCount) (pc := 33) (w := bc3 z) rfl ?_
  generalize bc3 z = u
  refine x_istore0 (M := mJ10_bitCount) (pc := 33) dJ10_bitCount_33 ?_
  refine x_iload_n (M := mJ10_bitCount) (pc := 34) dJ10_bitCount_34 rfl ?_
  refine x_iload_n (M := mJ10_bitCount) (pc := 35) dJ10_bitCount_35 rfl ?_
  refine x_bipush (M := mJ10_bitCount) (pc := 36) (v := nI 8) dJ10_bitCount_36 (by decide) ?_
  refine x_iushr (M := mJ10_bitCount) (pc := 38) dJ10_bitCount_38 rfl ?_
  first | with_reducible refine x_iaddN (M := mJ10_bitCount) (pc := 39) dJ10_bitCount_39 ?_ | refine x_iadd (M := mJ10_bitCount) (pc := 39) dJ10_bitCount_39 ?_
  refine x_val (M := mJ10_bitCount) (pc := 40) (w := bc4 u) rfl ?_
  generalize bc4 u = w
  refine x_istore0 (M := mJ10_bitCount) (pc := 40) dJ10_bitCount_40 ?_
  refine x_iload_n (M := mJ10_bitCount) (pc := 41) dJ10_bitCount_41 rfl ?_
  refine x_iload_n (M := mJ10_bitCount) (pc := 42) dJ10_bitCount_42 rfl ?_
  refine x_bipush (M := mJ10_bitCount) (pc := 43) (v := nI 16) dJ10_bitCount_43 (by decide) ?_
  refine x_iushr (M := mJ10_bitCount) (pc := 45) dJ10_bitCount_45 rfl ?_
  first | with_reducible refine x_iaddN (M := mJ10_bitCount) (pc := 46) dJ10_bitCount_46 ?_ | refine x_iadd (M := mJ10_bitCount) (pc := 46) dJ10_bitCount_46 ?_
  refine x_val (M := mJ10_bitCount) (pc := 47) (w := bc5 w) rfl ?_
  refine x_istore0 (M := mJ10_bitCount) (pc := 47) dJ10_bitCount_47 ?_
  refine x_iload_n (M := mJ10_bitCount) (pc := 48) dJ10_bitCount_48 rfl ?_
  refine x_bipush (M := mJ10_bitCount) (pc := 49) (v := nI 63) dJ10_bitCount_49 (by decide) ?_
  refine x_iand (M := mJ10_bitCount) (pc := 51) dJ10_bitCount_51 ?_
  refine x_iret (M := mJ10_bitCount) (pc := 52) dJ10_bitCount_52 rfl (by first | exact Nat.le_of_ble_eq_true rfl | omega) (by first | exact Nat.le_of_ble_eq_true rfl | omega) ?_
  exact ⟨rfl, rfl⟩
/-! Strings: the constants -/
abbrev xStrCh : List (List Nat) := [[115, 104, 101, 101, 116], [117, 110, 102, 111, 108, 100], [115, 112, 105, 110, 101], [112, 114, 105, 110, 116], [99, 117, 116], [115, 116, 97, 112, 108, 101], [110, 111, 116, 101], [108, 105, 110, 101, 115], [102, 111, 108, 100], [108, 101, 102, 116], [116, 111, 112], [114, 105, 103, 104, 116], [98, 111, 116, 116, 111, 109], [119, 104, 111, 108, 101], [59]]
def sC (i j : Nat) : Nat := (xStrCh.getD i []).getD j 0
def sLen (i : Nat) : Nat := xStrLen.getD i 0
theorem sC_tab : ((List.range 15).all fun i => decide (sLen i < 100 ∧ 1 ≤ sLen i) && (List.range (sLen i)).all fun j => decide (((xStrByt.getD i []).getD j 0 &&& nI 255) = nI (sC i j) ∧ sC i j < 256)) = true := by decide +kernel
theorem sC_ok {i j : Nat} (hi : i < 15) (hj : j < sLen i) : ((xStrByt.getD i []).getD j 0 &&& nI 255) = nI (sC i j) ∧ sC i j < 256 := by
  have := rg sC_tab hi
  simp only [Bool.and_eq_true] at this
  exact of_decide_eq_true (rg this.2 hj)
theorem sLen_ok {i : Nat} (hi : i < 15) : sLen i < 100 ∧ 1 ≤ sLen i := by
  have := rg sC_tab hi
  simp only [Bool.and_eq_true] at this
  exact of_decide_eq_true this.1
theorem strIs {i : Nat} (hi : i < 15) : xIs g h (xca g 2 i) "java/lang/String" := Or.inr (Or.inr ⟨rfl, i, hi, rfl⟩)
theorem char_tab : ((List.range 256).all fun n => decide ((nI n).toUInt32.toUInt16.toUInt32.toInt32 = nI n ∧ ((nI n).toUInt32 % 65536).toInt32 = nI n ∧ ((nI n).toInt8.toInt32 &&& nI 255) = nI n ∧ vp_nar .byte ((nI n).toInt8.toInt32) = (nI n).toInt8.toInt32 ∧ fits .byte (.int ((nI n).toInt8.toInt32)) = true)) = true := by decide +kernel
theorem char_all {n : Nat} (hn : n < 256) : (nI n).toUInt32.toUInt16.toUInt32.toInt32 = nI n ∧ ((nI n).toUInt32 % 65536).toInt32 = nI n ∧ ((nI n).toInt8.toInt32 &&& nI 255) = nI n ∧ vp_nar .byte ((nI n).toInt8.toInt32) = (nI n).toInt8.toInt32 ∧ fits .byte (.int ((nI n).toInt8.toInt32)) = true := of_decide_eq_true (rg char_tab hn)
theorem char_nar {n : Nat} (hn : n < 256) : narrow .char (.int (nI n)) = .int (nI n) := by
  show Value.int _ = _
  exact congrArg Value.int (char_all hn).1
theorem j_coder (h : xH) (i d : Nat) (hi : i < 15) : Ct g l mJ6_coder d 0 0 [.ref (xca g 2 i)] h (fun o h' => o = .inl (some (.int (nI 0))) ∧ h' = h) := by
  refine Ct.of [some (.ref (xca g 2 i))] (by decide +kernel) rfl (Nat.le_of_ble_eq_true rfl) rfl rfl ?_
  refine x_gets (M := mJ6_coder) (pc := 0) 5 q1803 dJ6_coder_0 rfl ?_
  refine x_if_eq (M := mJ6_coder) (pc := 3) 13 dJ6_coder_3 (by decide) (fun r_3 => ?_) (fun r_3 => ?_)
  · exact absurd r_3 (by decide)
  · refine x_aload_n (M := mJ6_coder) (pc := 6) dJ6_coder_6 rfl ?_
    refine x_getSC (M := mJ6_coder) (pc := 7) i hi q3391 dJ6_coder_7 ?_
    refine x_goto (M := mJ6_coder) (pc := 10) 14 dJ6_coder_10 (by decide) ?_
    refine x_nret (M := mJ6_coder) (pc := 14) dJ6_coder_14 rfl (by decide) (Nat.le_refl _) (Nat.le_refl _) ⟨rfl, rfl⟩
theorem j_strLen (h : xH) (i d : Nat) (hd : 1 ≤ d) (hi : i < 15) : Ct g l mJ6_length d 0 0 [.ref (xca g 2 i)] h (fun o h' => o = .inl (some (.int (nI (sLen i)))) ∧ h' = h) := by
  have := sLen_ok hi
  refine Ct.of [some (.ref (xca g 2 i))] (by decide +kernel) rfl (Nat.le_of_ble_eq_true rfl) rfl rfl ?_
  refine x_aload_n (M := mJ6_length) (pc := 0) dJ6_length_0 rfl ?_
  refine x_getSV (M := mJ6_length) (pc := 1) i hi q3390 dJ6_length_1 ?_
  refine x_alenS (M := mJ6_length) (pc := 4) i hi dJ6_length_4 ?_
  refine x_aload_n (M := mJ6_length) (pc := 5) dJ6_length_5 rfl ?_
  refine x_V0 (M := mJ6_length) (pc := 6) (M' := mJ6_coder) q1799 kVJ6_coder dJ6_length_6 (j_coder h i (d - 1) hi) (strIs hi) (fun v_ h hq_ => ?_)
  obtain ⟨hv_, rfl⟩ := hq_; cases hv_
  refine x_ishr (M := mJ6_length) (pc := 9) dJ6_length_9 ?_
  refine x_val (M := mJ6_length) (pc := 10) (nI_shr (a := sLen i) (by omega) (by omega)) ?_
  refine x_iret (M := mJ6_length) (pc := 10) dJ6_length_10 rfl (by first | exact Nat.le_of_ble_eq_true rfl | omega) (by first | exact Nat.le_of_ble_eq_true rfl | omega) ?_
  exact ⟨congrArg (fun z => Sum.inl (some (Value.int (nI z)))) (by omega), rfl⟩
theorem j_isLatin1 (h : xH) (i d : Nat) (hi : i < 15) : Ct g l mJ6_isLatin1 d 0 0 [.ref (xca g 2 i)] h (fun o h' => o = .inl (some (.int (bI true))) ∧ h' = h) := by
  refine Ct.of [some (.ref (xca g 2 i))] (by decide +kernel) rfl (Nat.le_of_ble_eq_true rfl) rfl rfl ?_
  refine x_gets (M := mJ6_isLatin1) (pc := 0) 5 q1803 dJ6_isLatin1_0 rfl ?_
  refine x_if_eq (M := mJ6_isLatin1) (pc := 3) 17 dJ6_isLatin1_3 (by decide) (fun r_3 => ?_) (fun r_3 => ?_)
  · exact absurd r_3 (by decide)
  · refine x_aload_n (M := mJ6_isLatin1) (pc := 6) dJ6_isLatin1_6 rfl ?_
    refine x_getSC (M := mJ6_isLatin1) (pc := 7) i hi q3391 dJ6_isLatin1_7 ?_
    refine x_if_ne (M := mJ6_isLatin1) (pc := 10) 17 dJ6_isLatin1_10 (by decide) (fun r_10 => ?_) (fun r_10 => ?_)
    · exact absurd rfl r_10
    · refine x_iconst (M := mJ6_isLatin1) (pc := 13) (v := nI 1) dJ6_isLatin1_13 (by decide) ?_
      refine x_goto (M := mJ6_isLatin1) (pc := 14) 18 dJ6_isLatin1_14 (by decide) ?_
      refine x_zret (M := mJ6_isLatin1) (pc := 18) dJ6_isLatin1_18 rfl (by first | with_reducible exact xz0 | with_reducible exact xz1 | with_reducible exact bI_01 _ | with_reducible assumption | assumption) (by first | exact Nat.le_of_ble_eq_true rfl | omega) (by first | exact Nat.le_of_ble_eq_true rfl | omega) ?_
      exact ⟨rfl, rfl⟩
theorem j_strChk (h : xH) (i n d : Nat) (hd : 1 ≤ d) (hi : i < n) (hn : n < 2 ^ 31) : Ct g l mJ6_checkIndex d 0 0 [.int (nI i), .int (nI n)] h (fun o h' => o = .inl none ∧ h' = h) := by
  refine Ct.of [some (.int (nI i)), some (.int (nI n))] (by decide +kernel) rfl (Nat.le_of_ble_eq_true rfl) rfl rfl ?_
  refine x_cst (fun hcv _ _ _ => ?_)
  have hr := hcv 0 (by omega)
  refine x_iload_n (M := mJ6_checkIndex) (pc := 0) dJ6_checkIndex_0 rfl ?_
  refine x_iload_n (M := mJ6_checkIndex) (pc := 1) dJ6_checkIndex_1 rfl ?_
  refine x_gets (M := mJ6_checkIndex) (pc := 2) 6 q1672 dJ6_checkIndex_2 rfl ?_
  refine x_S3 (M := mJ6_checkIndex) (pc := 5) (M' := mJ24_checkIndex) q1695 kSJ24_checkIndex dJ6_checkIndex_5 (j_chkP h i n (d - 1) (xcv g 0) hr hi hn) (fun v_ h hq_ => ?_)
  obtain ⟨hv_, rfl⟩ := hq_; cases hv_
  refine x_pop (M := mJ6_checkIndex) (pc := 8) dJ6_checkIndex_8 ?_
  refine x_vret (M := mJ6_checkIndex) (pc := 9) dJ6_checkIndex_9 rfl (by first | exact Nat.le_of_ble_eq_true rfl | omega) (by first | exact Nat.le_of_ble_eq_true rfl | omega) ?_
  exact ⟨rfl, rfl⟩
theorem j_l1charAt (h : xH) (i j d : Nat) (hd : 2 ≤ d) (hi : i < 15) (hj : j < sLen i) : Ct g l mJ25_charAt d 0 0 [.ref (xca g 3 i), .int (nI j)] h (fun o h' => o = .inl (some (.int (nI (sC i j)))) ∧ h' = h) := by
  have hl := sLen_ok hi
  have hc := sC_ok hi hj
  refine Ct.of [some (.ref (xca g 3 i)), some (.int (nI j))] (by decide +kernel) rfl (Nat.le_of_ble_eq_true rfl) rfl rfl ?_
  refine x_iload_n (M := mJ25_charAt) (pc := 0) dJ25_charAt_0 rfl ?_
  refine x_aload_n (M := mJ25_charAt) (pc := 1) dJ25_charAt_1 rfl ?_
  refine x_alenS (M := mJ25_charAt) (pc := 2) i hi dJ25_charAt_2 ?_
  refine x_S2 (M := mJ25_charAt) (pc := 3) (M' := mJ6_checkIndex) q1815 kSJ6_checkIndex dJ25_charAt_3 (j_strChk h j (sLen i) (d - 1) (by omega) hj (by omega)) (fun v_ h hq_ => ?_)
  obtain ⟨hv_, rfl⟩ := hq_; cases hv_
  refine x_aload_n (M := mJ25_charAt) (pc := 6) dJ25_charAt_6 rfl ?_
  refine x_iload_n (M := mJ25_charAt) (pc := 7) dJ25_charAt_7 rfl ?_
  skip
  refine x_baldS (M := mJ25_charAt) (pc := 8) i j hi hj hl.1 dJ25_charAt_8 ?_
  refine x_sipush (M := mJ25_charAt) (pc := 9) (v := nI 255) dJ25_charAt_9 (by decide) ?_
  refine x_iand (M := mJ25_charAt) (pc := 12) dJ25_charAt_12 ?_
  rw [hc.1]
  refine x_i2c (M := mJ25_charAt) (pc := 13) (v := nI (sC i j)) dJ25_charAt_13 (char_all hc.2).2.1 ?_
  refine x_nret (M := mJ25_charAt) (pc := 14) dJ25_charAt_14 rfl (char_nar hc.2) (Nat.le_refl _) (Nat.le_refl _) ⟨rfl, rfl⟩
theorem j_strCharAt (h : xH) (i j d : Nat) (hd : 3 ≤ d) (hi : i < 15) (hj : j < sLen i) : Ct g l mJ6_charAt d 0 0 [.ref (xca g 2 i), .int (nI j)] h (fun o h' => o = .inl (some (.int (nI (sC i j)))) ∧ h' = h) := by
  have hc := sC_ok hi hj
  refine Ct.of [some (.ref (xca g 2 i)), some (.int (nI j))] (by decide +kernel) rfl (Nat.le_of_ble_eq_true rfl) rfl rfl ?_
  refine x_aload_n (M := mJ6_charAt) (pc := 0) dJ6_charAt_0 rfl ?_
  refine x_V0 (M := mJ6_charAt) (pc := 1) (M' := mJ6_isLatin1) q1808 kVJ6_isLatin1 dJ6_charAt_1 (j_isLatin1 h i (d - 1) hi) (strIs hi) (fun v_ h hq_ => ?_)
  obtain ⟨hv_, rfl⟩ := hq_; cases hv_
  first | with_reducible refine x_ifB_eq (M := mJ6_charAt) (pc := 4) 16 dJ6_charAt_4 (by decide) (fun c4 => ?_) (fun c4 => ?_) | with_reducible refine x_if_eqN (M := mJ6_charAt) (pc := 4) 16 dJ6_charAt_4 (by decide) (by omega) (fun c4 => ?_) (fun c4 => ?_) | refine x_if_eq (M := mJ6_charAt) (pc := 4) 16 dJ6_charAt_4 (by decide) (fun c4 => ?_) (fun c4 => ?_)
  · exact absurd c4 (by decide)
  refine x_aload_n (M := mJ6_charAt) (pc := 7) dJ6_charAt_7 rfl ?_
  skip
  refine x_getSV (M := mJ6_charAt) (pc := 8) i hi q3390 dJ6_charAt_8 ?_
  refine x_iload_n (M := mJ6_charAt) (pc := 11) dJ6_charAt_11 rfl ?_
  refine x_S2 (M := mJ6_charAt) (pc := 12) (M' := mJ25_charAt) q1812 kSJ25_charAt dJ6_charAt_12 (j_l1charAt h i j (d - 1) (by omega) hi hj) (fun v_ h hq_ => ?_)
  obtain ⟨hv_, rfl⟩ := hq_; cases hv_
  skip
  refine x_nret (M := mJ6_charAt) (pc := 15) dJ6_charAt_15 rfl (char_nar hc.2) (Nat.le_refl _) (Nat.le_refl _) ⟨rfl, rfl⟩
theorem hash_ne {i : Nat} (hi : i < 15) : xStrHash.getD i 0 ≠ 0 := by
  have : ((List.range 15).all fun i => decide (xStrHash.getD i 0 ≠ 0)) = true := by decide +kernel
  exact of_decide_eq_true (rg this hi)
theorem j_hashCode (h : xH) (i d : Nat) (hi : i < 15) : Ct g l mJ6_hashCode d 0 0 [.ref (xca g 2 i)] h (fun o h' => o = .inl (some (.int (xStrHash.getD i 0))) ∧ h' = h) := by
  refine Ct.of [some (.ref (xca g 2 i)), none] (by decide +kernel) rfl (Nat.le_of_ble_eq_true rfl) rfl rfl ?_
  refine x_aload_n (M := mJ6_hashCode) (pc := 0) dJ6_hashCode_0 rfl ?_
  refine x_getSH (M := mJ6_hashCode) (pc := 1) i hi q3392 dJ6_hashCode_1 ?_
  refine x_istore1 (M := mJ6_hashCode) (pc := 4) dJ6_hashCode_4 ?_
  refine x_iload_n (M := mJ6_hashCode) (pc := 5) dJ6_hashCode_5 rfl ?_
  refine x_if_ne (M := mJ6_hashCode) (pc := 6) 58 dJ6_hashCode_6 (by decide) (fun r_6 => ?_) (fun r_6 => ?_)
  · refine x_iload_n (M := mJ6_hashCode) (pc := 58) dJ6_hashCode_58 rfl ?_
    refine x_iret (M := mJ6_hashCode) (pc := 59) dJ6_hashCode_59 rfl (by first | exact Nat.le_of_ble_eq_true rfl | omega) (by first | exact Nat.le_of_ble_eq_true rfl | omega) ?_
    exact ⟨rfl, rfl⟩
  · exact absurd r_6 (hash_ne hi)
/-- two words of the table, the second one "fold": other texts -/
theorem j_l1eq (h : xH) (i d : Nat) (hi : i < 8) : Ct g l mJ25_equals d 0 0 [.ref (xca g 3 i), .ref (xca g 3 8)] h (fun o h' => o = .inl (some (.int (bI false))) ∧ h' = h) := by
  have hl : sLen i < 100 := (sLen_ok (by omega)).1
  have h6 : sLen i = 4 → i = 6 := by
    have : ((List.range 8).all fun i => decide (sLen i = 4 → i = 6)) = true := by decide +kernel
    exact of_decide_eq_true (rg this hi)
  refine Ct.of [some (.ref (xca g 3 i)), some (.ref (xca g 3 8)), none] (by decide +kernel) rfl (Nat.le_of_ble_eq_true rfl) rfl rfl ?_
  refine x_aload_n (M := mJ25_equals) (pc := 0) dJ25_equals_0 rfl ?_
  refine x_alenS (M := mJ25_equals) (pc := 1) i (by omega) dJ25_equals_1 ?_
  refine x_aload_n (M := mJ25_equals) (pc := 2) dJ25_equals_2 rfl ?_
  refine x_alenS (M := mJ25_equals) (pc := 3) 8 (by omega) dJ25_equals_3 ?_
  refine x_icmp_neN (M := mJ25_equals) (pc := 4) (a := sLen i) (b := 4) 34 dJ25_equals_4 (by decide) (by omega) (by omega) (fun c4 => ?_) (fun c4 => ?_)
  · refine x_iconst (M := mJ25_equals) (pc := 34) (v := nI 0) dJ25_equals_34 (by decide) ?_
    refine x_zret (M := mJ25_equals) (pc := 35) dJ25_equals_35 rfl (by first | with_reducible exact xz0 | with_reducible exact xz1 | with_reducible exact bI_01 _ | with_reducible assumption | assumption) (by first | exact Nat.le_of_ble_eq_true rfl | omega) (by first | exact Nat.le_of_ble_eq_true rfl | omega) ?_
    exact ⟨rfl, rfl⟩
  · have e := h6 c4
    subst e
    refine x_iconst (M := mJ25_equals) (pc := 7) (v := nI 0) dJ25_equals_7 (by decide) ?_
    refine x_istore2 (M := mJ25_equals) (pc := 8) dJ25_equals_8 ?_
    refine x_iload_n (M := mJ25_equals) (pc := 9) dJ25_equals_9 rfl ?_
    refine x_aload_n (M := mJ25_equals) (pc := 10) dJ25_equals_10 rfl ?_
    refine x_alenS (M := mJ25_equals) (pc := 11) 6 (by omega) dJ25_equals_11 ?_
    refine x_icmp_geN (M := mJ25_equals) (pc := 12) (a := 0) (b := 4) 32 dJ25_equals_12 (by decide) (by omega) (by omega) (fun c12 => absurd c12 (by omega)) (fun _ => ?_)
    refine x_aload_n (M := mJ25_equals) (pc := 15) dJ25_equals_15 rfl ?_
    refine x_iload_n (M := mJ25_equals) (pc := 16) dJ25_equals_16 rfl ?_
    refine x_baldS (M := mJ25_equals) (pc := 17) 6 0 (by omega) (by decide) (by decide) dJ25_equals_17 ?_
    refine x_aload_n (M := mJ25_equals) (pc := 18) dJ25_equals_18 rfl ?_
    refine x_iload_n (M := mJ25_equals) (pc := 19) dJ25_equals_19 rfl ?_
    refine x_baldS (M := mJ25_equals) (pc := 20) 8 0 (by omega) (by decide) (by decide) dJ25_equals_20 ?_
    refine x_icmp_eq (M := mJ25_equals) (pc := 21) 26 dJ25_equals_21 (by decide) (fun r_21 => ?_) (fun r_21 => ?_)
    · exact absurd r_21 (by decide)
    · refine x_iconst (M := mJ25_equals) (pc := 24) (v := nI 0) dJ25_equals_24 (by decide) ?_
      refine x_zret (M := mJ25_equals) (pc := 25) dJ25_equals_25 rfl (by first | with_reducible exact xz0 | with_reducible exact xz1 | with_reducible exact bI_01 _ | with_reducible assumption | assumption) (by first | exact Nat.le_of_ble_eq_true rfl | omega) (by first | exact Nat.le_of_ble_eq_true rfl | omega) ?_
      exact ⟨rfl, rfl⟩
theorem j_strEq (h : xH) (i d : Nat) (hi : i < 15) : Ct g l mJ6_equals d 0 0 [.ref (xca g 2 i), .ref (xca g 2 i)] h (fun o h' => o = .inl (some (.int (bI true))) ∧ h' = h) := by
  refine Ct.of [some (.ref (xca g 2 i)), some (.ref (xca g 2 i)), none] (by decide +kernel) rfl (Nat.le_of_ble_eq_true rfl) rfl rfl ?_
  refine x_aload_n (M := mJ6_equals) (pc := 0) dJ6_equals_0 rfl ?_
  refine x_aload_n (M := mJ6_equals) (pc := 1) dJ6_equals_1 rfl ?_
  refine x_acmp_ne (M := mJ6_equals) (pc := 2) (some (xca g 2 i)) (some (xca g 2 i)) 7 dJ6_equals_2 (by decide) rfl rfl (fun c => absurd rfl c) (fun _ => ?_)
  refine x_iconst (M := mJ6_equals) (pc := 5) (v := nI 1) dJ6_equals_5 (by decide) ?_
  refine x_zret (M := mJ6_equals) (pc := 6) dJ6_equals_6 rfl (by first | with_reducible exact xz0 | with_reducible exact xz1 | with_reducible exact bI_01 _ | with_reducible assumption | assumption) (by first | exact Nat.le_of_ble_eq_true rfl | omega) (by first | exact Nat.le_of_ble_eq_true rfl | omega) ?_
  exact ⟨rfl, rfl⟩
theorem j_eqFold (h : xH) (i d : Nat) (hd : 1 ≤ d) (hi : i < 9) : Ct g l mJ6_equals d 0 0 [.ref (xca g 2 i), .ref (xca g 2 8)] h (fun o h' => o = .inl (some (.int (bI (decide (i = 8))))) ∧ h' = h) := by
  by_cases e : i = 8
  · subst e; exact j_strEq h 8 d (by omega)
  · refine Ct.of [some (.ref (xca g 2 i)), some (.ref (xca g 2 8)), none] (by decide +kernel) rfl (Nat.le_of_ble_eq_true rfl) rfl rfl ?_
    refine x_cst (fun _ _ hin _ => ?_)
    refine x_aload_n (M := mJ6_equals) (pc := 0) dJ6_equals_0 rfl ?_
    refine x_aload_n (M := mJ6_equals) (pc := 1) dJ6_equals_1 rfl ?_
    refine x_acmp_ne (M := mJ6_equals) (pc := 2) (some (xca g 2 i)) (some (xca g 2 8)) 7 dJ6_equals_2 (by decide) rfl rfl (fun c => ?_) (fun c => absurd (hin i 8 (by omega) (by omega) (Option.some.inj c)) e)
    refine x_aload_n (M := mJ6_equals) (pc := 7) dJ6_equals_7 rfl ?_
    refine x_instSame (M := mJ6_equals) (pc := 8) q1889 dJ6_equals_8 (strIs (by omega)) ?_
    refine x_if_eq (M := mJ6_equals) (pc := 11) 54 dJ6_equals_11 (by decide) (fun r_11 => ?_) (fun r_11 => ?_)
    · exact absurd r_11 (by decide)
    · refine x_aload_n (M := mJ6_equals) (pc := 14) dJ6_equals_14 rfl ?_
      refine x_cast (M := mJ6_equals) (pc := 15) q1889 dJ6_equals_15 (strIs (by omega)) (Or.inl rfl) ?_
      refine x_astore2 (M := mJ6_equals) (pc := 18) dJ6_equals_18 ?_
      refine x_gets (M := mJ6_equals) (pc := 19) 5 q1803 dJ6_equals_19 rfl ?_
      refine x_if_eq (M := mJ6_equals) (pc := 22) 36 dJ6_equals_22 (by decide) (fun r_22 => ?_) (fun r_22 => ?_)
      · exact absurd r_22 (by decide)
      · refine x_aload_n (M := mJ6_equals) (pc := 25) dJ6_equals_25 rfl ?_
        refine x_getSC (M := mJ6_equals) (pc := 26) i (by omega) q3391 dJ6_equals_26 ?_
        refine x_aload_n (M := mJ6_equals) (pc := 29) dJ6_equals_29 rfl ?_
        refine x_getSC (M := mJ6_equals) (pc := 30) 8 (by omega) q3391 dJ6_equals_30 ?_
        refine x_icmp_ne (M := mJ6_equals) (pc := 33) 54 dJ6_equals_33 (by decide) (fun r_33 => ?_) (fun r_33 => ?_)
        · exact absurd rfl r_33
        · refine x_aload_n (M := mJ6_equals) (pc := 36) dJ6_equals_36 rfl ?_
          refine x_getSV (M := mJ6_equals) (pc := 37) i (by omega) q3390 dJ6_equals_37 ?_
          refine x_aload_n (M := mJ6_equals) (pc := 40) dJ6_equals_40 rfl ?_
          refine x_getSV (M := mJ6_equals) (pc := 41) 8 (by omega) q3390 dJ6_equals_41 ?_
          refine x_S2 (M := mJ6_equals) (pc := 44) (M' := mJ25_equals) q1890 kSJ25_equals dJ6_equals_44 (j_l1eq h i (d - 1) (by omega)) (fun v_ h hq_ => ?_)
          obtain ⟨hv_, rfl⟩ := hq_; cases hv_
          first | with_reducible refine x_ifB_eq (M := mJ6_equals) (pc := 47) 54 dJ6_equals_47 (by decide) (fun c47 => ?_) (fun c47 => ?_) | with_reducible refine x_if_eqN (M := mJ6_equals) (pc := 47) 54 dJ6_equals_47 (by decide) (by omega) (fun c47 => ?_) (fun c47 => ?_) | refine x_if_eq (M := mJ6_equals) (pc := 47) 54 dJ6_equals_47 (by decide) (fun c47 => ?_) (fun c47 => ?_)
          · refine x_iconst (M := mJ6_equals) (pc := 54) (v := nI 0) dJ6_equals_54 (by decide) ?_
            refine x_zret (M := mJ6_equals) (pc := 55) dJ6_equals_55 rfl (by first | with_reducible exact xz0 | with_reducible exact xz1 | with_reducible exact bI_01 _ | with_reducible assumption | assumption) (by first | exact Nat.le_of_ble_eq_true rfl | omega) (by first | exact Nat.le_of_ble_eq_true rfl | omega) ?_
            exact ⟨by simp [e]; rfl, rfl⟩
          · exact absurd c47 (by decide)
end JDKINT

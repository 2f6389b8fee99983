/-! java.lang.StringBuilder, of latin text -/
section JDKSB
set_option maxRecDepth 100000
variable {g : xG} {l : Launch} {h : xH}
def byt (c : Nat) : Int32 := (nI c).toInt8.toInt32
/-- a builder: its object at a, its bytes at arr; n signs by tx -/
def SB (g : xG) (h : xH) (a arr n : Nat) (tx : Nat → Nat) : Prop :=
  ∃ (ml : Int32) (cap : Nat) (f : Nat → Int32), (ml = 0 ∨ ml = 1) ∧ h a = some (.inr (30, [.ref arr, .int (nI 0), .int ml, .int (nI n)])) ∧ h arr = some (.inl (xdA g 2, cap, .inl f)) ∧ n ≤ cap ∧ cap ≤ 300 ∧ n ≤ 120 ∧ arr ≠ a ∧ (∀ k, k < n → f k = byt (tx k) ∧ tx k < 256) ∧ (∀ k, k < cap → fits .byte (.int (f k)) = true)
theorem SB.is {a arr n : Nat} {tx : Nat → Nat} (hA : SB g h a arr n tx) : xIs g h a "java/lang/StringBuilder" := by
  obtain ⟨ml, cap, f, -, h1, -⟩ := hA; exact xIs.of kcJ5 h1
theorem SB.le2 {h' : xH} {a arr n : Nat} {tx : Nat → Nat} (hA : SB g h a arr n tx) (e1 : ∀ e, h a = some e → h' a = some e) (e2 : ∀ e, h arr = some e → h' arr = some e) : SB g h' a arr n tx := by
  obtain ⟨ml, cap, f, h0, h1, h2, h3⟩ := hA
  exact ⟨ml, cap, f, h0, e1 _ h1, e2 _ h2, h3⟩
theorem sbAt : ∃ r ∈ xCl, r.1 = "java/lang/StringBuilder" := ⟨_, List.mem_of_getElem? (i := 30) rfl, rfl⟩
theorem j_asbInit (h : xH) (a d : Nat) (v0 v1 : Value) (w2 w3 : Int32) (ha : h a = some (.inr (30, [v0, v1, .int w2, .int w3]))) (hd : 1 ≤ d) : Ct g l mJ4_init d 1 16 [.ref a, .int (nI 16)] h (fun o h' => o = .inl none ∧ ∃ q, h q = none ∧ h' = xu (xu h q (.inl (xdA g 2, 16, .inl (fun _ => 0)))) a (.inr (30, [.ref q, .int (nI 0), .int w2, .int w3]))) := by
  refine Ct.of [some (.ref a), some (.int (nI 16))] (by decide +kernel) rfl (Nat.le_of_ble_eq_true rfl) rfl rfl ?_
  refine x_aload_n (M := mJ4_init) (pc := 0) dJ4_init_0 rfl ?_
  refine x_objInit (M := mJ4_init) (pc := 1) q344 dJ4_init_1 hd (Nat.le_of_ble_eq_true rfl) ?_
  refine x_gets (M := mJ4_init) (pc := 4) 5 q345 dJ4_init_4 rfl ?_
  refine x_if_eq (M := mJ4_init) (pc := 7) 25 dJ4_init_7 (by decide) (fun r_7 => ?_) (fun r_7 => ?_)
  · exact absurd r_7 (by decide)
  · refine x_aload_n (M := mJ4_init) (pc := 10) dJ4_init_10 rfl ?_
    refine x_iload_n (M := mJ4_init) (pc := 11) dJ4_init_11 rfl ?_
    refine x_newB (M := mJ4_init) (pc := 12) _ dJ4_init_12 (by first | rfl | assumption) (by first | exact Nat.le_of_ble_eq_true rfl | omega) (by first | exact Nat.le_of_ble_eq_true rfl | omega) (by first | exact Nat.le_of_ble_eq_true rfl | omega) (fun q12_ hq12_ hb12_ => ?_)
    (try simp only [xu_noneI] at hq12_)
    repeat (obtain ⟨_, hq12_⟩ : _ ∧ _ := hq12_)
    first | refine x_put0' (M := mJ4_init) (pc := 14) kcJ5 q354 dJ4_init_14 ?_ | refine x_put0 (M := mJ4_init) (pc := 14) kcJ5 q354 dJ4_init_14 (by first | assumption | exact xu_s _ _ _ | exact (xu_n (by first | assumption | exact Ne.symm (by assumption) | exact xu_fresh (by assumption) (by assumption) | exact (xu_fresh (by assumption) (by assumption)).symm)).trans (by first | assumption | exact xu_s _ _ _ | exact (xu_n (by first | assumption | exact Ne.symm (by assumption) | exact xu_fresh (by assumption) (by assumption) | exact (xu_fresh (by assumption) (by assumption)).symm)).trans (by first | assumption | exact xu_s _ _ _ | exact (xu_n (by first | assumption | exact Ne.symm (by assumption) | exact xu_fresh (by assumption) (by assumption) | exact (xu_fresh (by assumption) (by assumption)).symm)).trans (by first | assumption | exact xu_s _ _ _)))) ?_
    refine x_aload_n (M := mJ4_init) (pc := 17) dJ4_init_17 rfl ?_
    refine x_iconst (M := mJ4_init) (pc := 18) (v := nI 0) dJ4_init_18 (by decide) ?_
    first | refine x_put1' (M := mJ4_init) (pc := 19) kcJ5 q355 dJ4_init_19 ?_ | refine x_put1 (M := mJ4_init) (pc := 19) kcJ5 q355 dJ4_init_19 (by first | assumption | exact xu_s _ _ _ | exact (xu_n (by first | assumption | exact Ne.symm (by assumption) | exact xu_fresh (by assumption) (by assumption) | exact (xu_fresh (by assumption) (by assumption)).symm)).trans (by first | assumption | exact xu_s _ _ _ | exact (xu_n (by first | assumption | exact Ne.symm (by assumption) | exact xu_fresh (by assumption) (by assumption) | exact (xu_fresh (by assumption) (by assumption)).symm)).trans (by first | assumption | exact xu_s _ _ _ | exact (xu_n (by first | assumption | exact Ne.symm (by assumption) | exact xu_fresh (by assumption) (by assumption) | exact (xu_fresh (by assumption) (by assumption)).symm)).trans (by first | assumption | exact xu_s _ _ _)))) ?_
    refine x_goto (M := mJ4_init) (pc := 22) 38 dJ4_init_22 (by decide) ?_
    refine x_vret (M := mJ4_init) (pc := 38) dJ4_init_38 rfl (by first | exact Nat.le_of_ble_eq_true rfl | omega) (by first | exact Nat.le_of_ble_eq_true rfl | omega) ?_
    exact ⟨rfl, q12_, hq12_, rfl⟩
theorem j_sbInit (h : xH) (a d : Nat) (v0 v1 : Value) (hd : 2 ≤ d) (ha : h a = some (.inr (30, [v0, v1, .int 0, .int 0]))) : Ct g l mJ5_init d 1 16 [.ref a] h (fun o h' => o = .inl none ∧ ∃ arr, h arr = none ∧ SB g h' a arr 0 (fun _ => 0) ∧ xle1 a h h') := by
  refine Ct.of [some (.ref a)] (by decide +kernel) rfl (Nat.le_of_ble_eq_true rfl) rfl rfl ?_
  refine x_aload_n (M := mJ5_init) (pc := 0) dJ5_init_0 rfl ?_
  refine x_bipush (M := mJ5_init) (pc := 1) (v := nI 16) dJ5_init_1 (by decide) ?_
  refine x_I1 (M := mJ5_init) (pc := 3) (M' := mJ4_init) q341 kIJ4_init dJ5_init_3 (j_asbInit h a (d - 1) v0 v1 0 0 ha (by omega)) (fun v_ h hq_ => ?_)
  obtain ⟨hv_, q, hq, rfl⟩ := hq_; cases hv_
  refine x_vret (M := mJ5_init) (pc := 6) dJ5_init_6 rfl (by first | exact Nat.le_of_ble_eq_true rfl | omega) (by first | exact Nat.le_of_ble_eq_true rfl | omega) ?_
  exact ⟨rfl, q, hq, ⟨0, 16, fun _ => 0, Or.inl rfl, xu_s _ _ _, (xu_n (fun e => by rw [e, ha] at hq; cases hq)).trans (xu_s _ _ _), by omega, by omega, by omega, (fun e => by rw [e, ha] at hq; cases hq), fun k hk => absurd hk (Nat.not_lt_zero k), fun k _ => (by decide : fits .byte (.int 0) = true)⟩, fun b e n1 hb => (xu_n n1).trans ((xu_n (fun z => by rw [z, hq] at hb; cases hb)).trans hb)⟩
theorem j_asbLen (h : xH) (a arr n d : Nat) (tx : Nat → Nat) (hA : SB g h a arr n tx) : Ct g l mJ4_length d 0 0 [.ref a] h (fun o h' => o = .inl (some (.int (nI n))) ∧ h' = h) := by
  obtain ⟨ml, cap, f, h0, ha, hb, h1, h2, h3, h4, h5, h6⟩ := hA
  refine Ct.of [some (.ref a)] (by decide +kernel) rfl (Nat.le_of_ble_eq_true rfl) rfl rfl ?_
  refine x_aload_n (M := mJ4_length) (pc := 0) dJ4_length_0 rfl ?_
  refine x_get (M := mJ4_length) (pc := 1) kcJ5 3 rfl q357 dJ4_length_1 (by first | assumption | exact xu_s _ _ _ | exact (xu_n (by first | assumption | exact Ne.symm (by assumption) | exact xu_fresh (by assumption) (by assumption) | exact (xu_fresh (by assumption) (by assumption)).symm)).trans (by first | assumption | exact xu_s _ _ _ | exact (xu_n (by first | assumption | exact Ne.symm (by assumption) | exact xu_fresh (by assumption) (by assumption) | exact (xu_fresh (by assumption) (by assumption)).symm)).trans (by first | assumption | exact xu_s _ _ _ | exact (xu_n (by first | assumption | exact Ne.symm (by assumption) | exact xu_fresh (by assumption) (by assumption) | exact (xu_fresh (by assumption) (by assumption)).symm)).trans (by first | assumption | exact xu_s _ _ _)))) rfl ?_
  refine x_iret (M := mJ4_length) (pc := 4) dJ4_length_4 rfl (by first | exact Nat.le_of_ble_eq_true rfl | omega) (by first | exact Nat.le_of_ble_eq_true rfl | omega) ?_
  exact ⟨rfl, rfl⟩
theorem j_sbLen (h : xH) (a arr n d : Nat) (tx : Nat → Nat) (hd : 1 ≤ d) (hA : SB g h a arr n tx) : Ct g l mJ5_length d 0 0 [.ref a] h (fun o h' => o = .inl (some (.int (nI n))) ∧ h' = h) := by
  refine Ct.of [some (.ref a)] (by decide +kernel) rfl (Nat.le_of_ble_eq_true rfl) rfl rfl ?_
  refine x_aload_n (M := mJ5_length) (pc := 0) dJ5_length_0 rfl ?_
  refine x_GSU (M := mJ5_length) (pc := 1) (M' := mJ4_length) (As := []) q1615 q3316 q366 q1616 kCJ4_length (by decide) dJ5_length_1 (j_asbLen h a arr n (d - 1) tx hA) hA.is sbAt rfl rfl (by omega) (Nat.le_refl _) (Nat.le_refl _) (by intro q h' hh; simp at hh) (Nat.le_of_ble_eq_true rfl) (fun v_ h1 hq_ => ?_)
  obtain ⟨hv_, rfl⟩ := hq_; cases hv_
  refine x_iret (M := mJ5_length) (pc := 4) dJ5_length_4 rfl (by first | exact Nat.le_of_ble_eq_true rfl | omega) (by first | exact Nat.le_of_ble_eq_true rfl | omega) ?_
  exact ⟨rfl, rfl⟩
theorem j_asbCharAt (h : xH) (a arr n i d : Nat) (tx : Nat → Nat) (hd : 2 ≤ d) (hA : SB g h a arr n tx) (hi : i < n) : Ct g l mJ4_charAt d 0 0 [.ref a, .int (nI i)] h (fun o h' => o = .inl (some (.int (nI (tx i)))) ∧ h' = h) := by
  obtain ⟨ml, cap, f, h0, ha, hb, h1, h2, h3, h4, h5, h6⟩ := hA
  have hc := char_all (h5 i hi).2
  refine Ct.of [some (.ref a), some (.int (nI i)), none, none, none] (by decide +kernel) rfl (Nat.le_of_ble_eq_true rfl) rfl rfl ?_
  refine x_aload_n (M := mJ4_charAt) (pc := 0) dJ4_charAt_0 rfl ?_
  refine x_get (M := mJ4_charAt) (pc := 1) kcJ5 1 rfl q355 dJ4_charAt_1 (by first | assumption | exact xu_s _ _ _ | exact (xu_n (by first | assumption | exact Ne.symm (by assumption) | exact xu_fresh (by assumption) (by assumption) | exact (xu_fresh (by assumption) (by assumption)).symm)).trans (by first | assumption | exact xu_s _ _ _ | exact (xu_n (by first | assumption | exact Ne.symm (by assumption) | exact xu_fresh (by assumption) (by assumption) | exact (xu_fresh (by assumption) (by assumption)).symm)).trans (by first | assumption | exact xu_s _ _ _ | exact (xu_n (by first | assumption | exact Ne.symm (by assumption) | exact xu_fresh (by assumption) (by assumption) | exact (xu_fresh (by assumption) (by assumption)).symm)).trans (by first | assumption | exact xu_s _ _ _)))) rfl ?_
  refine x_istore2 (M := mJ4_charAt) (pc := 4) dJ4_charAt_4 ?_
  refine x_aload_n (M := mJ4_charAt) (pc := 5) dJ4_charAt_5 rfl ?_
  refine x_get (M := mJ4_charAt) (pc := 6) kcJ5 0 rfl q354 dJ4_charAt_6 (by first | assumption | exact xu_s _ _ _ | exact (xu_n (by first | assumption | exact Ne.symm (by assumption) | exact xu_fresh (by assumption) (by assumption) | exact (xu_fresh (by assumption) (by assumption)).symm)).trans (by first | assumption | exact xu_s _ _ _ | exact (xu_n (by first | assumption | exact Ne.symm (by assumption) | exact xu_fresh (by assumption) (by assumption) | exact (xu_fresh (by assumption) (by assumption)).symm)).trans (by first | assumption | exact xu_s _ _ _ | exact (xu_n (by first | assumption | exact Ne.symm (by assumption) | exact xu_fresh (by assumption) (by assumption) | exact (xu_fresh (by assumption) (by assumption)).symm)).trans (by first | assumption | exact xu_s _ _ _)))) rfl ?_
  refine x_astore3 (M := mJ4_charAt) (pc := 9) dJ4_charAt_9 ?_
  refine x_aload_n (M := mJ4_charAt) (pc := 10) dJ4_charAt_10 rfl ?_
  refine x_get (M := mJ4_charAt) (pc := 11) kcJ5 3 rfl q357 dJ4_charAt_11 (by first | assumption | exact xu_s _ _ _ | exact (xu_n (by first | assumption | exact Ne.symm (by assumption) | exact xu_fresh (by assumption) (by assumption) | exact (xu_fresh (by assumption) (by assumption)).symm)).trans (by first | assumption | exact xu_s _ _ _ | exact (xu_n (by first | assumption | exact Ne.symm (by assumption) | exact xu_fresh (by assumption) (by assumption) | exact (xu_fresh (by assumption) (by assumption)).symm)).trans (by first | assumption | exact xu_s _ _ _ | exact (xu_n (by first | assumption | exact Ne.symm (by assumption) | exact xu_fresh (by assumption) (by assumption) | exact (xu_fresh (by assumption) (by assumption)).symm)).trans (by first | assumption | exact xu_s _ _ _)))) rfl ?_
  refine x_aload_n (M := mJ4_charAt) (pc := 14) dJ4_charAt_14 rfl ?_
  refine x_alen (M := mJ4_charAt) (pc := 15) dJ4_charAt_15 (by first | assumption | exact xu_s _ _ _ | exact (xu_n (by first | assumption | exact Ne.symm (by assumption) | exact xu_fresh (by assumption) (by assumption) | exact (xu_fresh (by assumption) (by assumption)).symm)).trans (by first | assumption | exact xu_s _ _ _ | exact (xu_n (by first | assumption | exact Ne.symm (by assumption) | exact xu_fresh (by assumption) (by assumption) | exact (xu_fresh (by assumption) (by assumption)).symm)).trans (by first | assumption | exact xu_s _ _ _ | exact (xu_n (by first | assumption | exact Ne.symm (by assumption) | exact xu_fresh (by assumption) (by assumption) | exact (xu_fresh (by assumption) (by assumption)).symm)).trans (by first | assumption | exact xu_s _ _ _)))) rfl ?_
  refine x_iload_n (M := mJ4_charAt) (pc := 16) dJ4_charAt_16 rfl ?_
  refine x_ishr (M := mJ4_charAt) (pc := 17) dJ4_charAt_17 ?_
  refine x_val (M := mJ4_charAt) (pc := 18) (nI_shr (a := cap) (by omega) (by omega)) ?_
  refine x_mmin (M := mJ4_charAt) (pc := 18) q1769 dJ4_charAt_18 (by omega) (by omega) (by first | assumption | omega) (by first | exact Nat.le_of_ble_eq_true rfl | omega) (by first | exact Nat.le_of_ble_eq_true rfl | omega) (by first | exact Nat.le_of_ble_eq_true rfl | (simp [xcat_rf, Value.category])) ?_
  refine x_istore4 (M := mJ4_charAt) (pc := 21) dJ4_charAt_21 ?_
  refine x_iload_n (M := mJ4_charAt) (pc := 23) dJ4_charAt_23 rfl ?_
  refine x_iload (M := mJ4_charAt) (pc := 24) dJ4_charAt_24 rfl ?_
  refine x_S2 (M := mJ4_charAt) (pc := 26) (M' := mJ6_checkIndex) q1770 kSJ6_checkIndex dJ4_charAt_26 (j_strChk h i (min n (cap / 2 ^ 0)) (d - 1) (by omega) (by omega) (by omega)) (fun v_ h hq_ => ?_)
  obtain ⟨hv_, rfl⟩ := hq_; cases hv_
  refine x_iload_n (M := mJ4_charAt) (pc := 29) dJ4_charAt_29 rfl ?_
  first | with_reducible refine x_ifB_ne (M := mJ4_charAt) (pc := 30) 42 dJ4_charAt_30 (by decide) (fun c30 => ?_) (fun c30 => ?_) | with_reducible refine x_if_neN (M := mJ4_charAt) (pc := 30) 42 dJ4_charAt_30 (by decide) (by omega) (fun c30 => ?_) (fun c30 => ?_) | refine x_if_ne (M := mJ4_charAt) (pc := 30) 42 dJ4_charAt_30 (by decide) (fun c30 => ?_) (fun c30 => ?_)
  · exact absurd c30 (by omega)
  refine x_aload_n (M := mJ4_charAt) (pc := 33) dJ4_charAt_33 rfl ?_
  refine x_iload_n (M := mJ4_charAt) (pc := 34) dJ4_charAt_34 rfl ?_
  refine x_baldN (M := mJ4_charAt) (pc := 35) _ dJ4_charAt_35 (by first | assumption | exact xu_s _ _ _ | exact (xu_n (by first | assumption | exact Ne.symm (by assumption) | exact xu_fresh (by assumption) (by assumption) | exact (xu_fresh (by assumption) (by assumption)).symm)).trans (by first | assumption | exact xu_s _ _ _ | exact (xu_n (by first | assumption | exact Ne.symm (by assumption) | exact xu_fresh (by assumption) (by assumption) | exact (xu_fresh (by assumption) (by assumption)).symm)).trans (by first | assumption | exact xu_s _ _ _ | exact (xu_n (by first | assumption | exact Ne.symm (by assumption) | exact xu_fresh (by assumption) (by assumption) | exact (xu_fresh (by assumption) (by assumption)).symm)).trans (by first | assumption | exact xu_s _ _ _)))) (by first | rfl | assumption) (by first | assumption | omega) (by first | decide | omega) ?_
  skip
  rw [(h5 i hi).1]
  refine x_sipush (M := mJ4_charAt) (pc := 36) (v := nI 255) dJ4_charAt_36 (by decide) ?_
  refine x_iand (M := mJ4_charAt) (pc := 39) dJ4_charAt_39 ?_
  unfold byt
  rw [hc.2.2.1]
  refine x_i2c (M := mJ4_charAt) (pc := 40) (v := nI (tx i)) dJ4_charAt_40 hc.2.1 ?_
  refine x_nret (M := mJ4_charAt) (pc := 41) dJ4_charAt_41 rfl (char_nar (h5 i hi).2) (Nat.le_refl _) (Nat.le_refl _) ⟨rfl, rfl⟩
theorem j_sbCharAt (h : xH) (a arr n i d : Nat) (tx : Nat → Nat) (hd : 3 ≤ d) (hA : SB g h a arr n tx) (hi : i < n) : Ct g l mJ5_charAt d 0 0 [.ref a, .int (nI i)] h (fun o h' => o = .inl (some (.int (nI (tx i)))) ∧ h' = h) := by
  have ht : tx i < 256 := by obtain ⟨ml, cap, f, h0, ha, hb, h1, h2, h3, h4, h5, h6⟩ := hA; exact (h5 i hi).2
  refine Ct.of [some (.ref a), some (.int (nI i))] (by decide +kernel) rfl (Nat.le_of_ble_eq_true rfl) rfl rfl ?_
  refine x_aload_n (M := mJ5_charAt) (pc := 0) dJ5_charAt_0 rfl ?_
  refine x_iload_n (M := mJ5_charAt) (pc := 1) dJ5_charAt_1 rfl ?_
  refine x_GSU (M := mJ5_charAt) (pc := 2) (M' := mJ4_charAt) (As := [.int (nI i)]) q1766 q3322 q366 q1767 kCJ4_charAt (by decide) dJ5_charAt_2 (j_asbCharAt h a arr n i (d - 1) tx (by omega) hA hi) hA.is sbAt rfl rfl (by omega) (Nat.le_refl _) (Nat.le_refl _) (by intro q h' hh; simp at hh) (Nat.le_of_ble_eq_true rfl) (fun v_ h1 hq_ => ?_)
  obtain ⟨hv_, rfl⟩ := hq_; cases hv_
  refine x_nret (M := mJ5_charAt) (pc := 5) dJ5_charAt_5 rfl (char_nar ht) (Nat.le_refl _) (Nat.le_refl _) ⟨rfl, rfl⟩
/-- Arrays.copyOf of bytes, to another length -/
theorem j_copyOfB (h : xH) (a m n d : Nat) (f : Nat → Int32) (hd : 1 ≤ d) (ha : h a = some (.inl (xdA g 2, m, .inl f))) (hm : m < 2 ^ 20) (hn : n < 2 ^ 20) (hmn : m < n) (hfit : ∀ k, k < m → fits .byte (.int (f k)) = true) : Ct g l mJ11_copyOf_3 d 1 n [.ref a, .int (nI n)] h (fun o h' => ∃ q, o = .inl (some (.ref q)) ∧ h q = none ∧ h' = xu h q (.inl (xdA g 2, n, .inl (fun k => if k < m then f k else 0)))) := by
  refine Ct.of [some (.ref a), some (.int (nI n)), none] (by decide +kernel) rfl (Nat.le_of_ble_eq_true rfl) rfl rfl ?_
  refine x_iload_n (M := mJ11_copyOf_3) (pc := 0) dJ11_copyOf_3_0 rfl ?_
  refine x_aload_n (M := mJ11_copyOf_3) (pc := 1) dJ11_copyOf_3_1 rfl ?_
  refine x_alen (M := mJ11_copyOf_3) (pc := 2) dJ11_copyOf_3_2 (by first | assumption | exact xu_s _ _ _ | exact (xu_n (by first | assumption | exact Ne.symm (by assumption) | exact xu_fresh (by assumption) (by assumption) | exact (xu_fresh (by assumption) (by assumption)).symm)).trans (by first | assumption | exact xu_s _ _ _ | exact (xu_n (by first | assumption | exact Ne.symm (by assumption) | exact xu_fresh (by assumption) (by assumption) | exact (xu_fresh (by assumption) (by assumption)).symm)).trans (by first | assumption | exact xu_s _ _ _ | exact (xu_n (by first | assumption | exact Ne.symm (by assumption) | exact xu_fresh (by assumption) (by assumption) | exact (xu_fresh (by assumption) (by assumption)).symm)).trans (by first | assumption | exact xu_s _ _ _)))) rfl ?_
  first | with_reducible refine x_icmp_neN (M := mJ11_copyOf_3) (pc := 3) 14 dJ11_copyOf_3_3 (by decide) (by omega) (by omega) (fun c3 => ?_) (fun c3 => ?_) | refine x_icmp_ne (M := mJ11_copyOf_3) (pc := 3) 14 dJ11_copyOf_3_3 (by decide) (fun c3 => ?_) (fun c3 => ?_)
  · refine x_iload_n (M := mJ11_copyOf_3) (pc := 14) dJ11_copyOf_3_14 rfl ?_
    refine x_newB (M := mJ11_copyOf_3) (pc := 15) _ dJ11_copyOf_3_15 (by first | rfl | assumption) (by first | exact Nat.le_of_ble_eq_true rfl | omega) (by first | exact Nat.le_of_ble_eq_true rfl | omega) (by first | exact Nat.le_of_ble_eq_true rfl | omega) (fun q15_ hq15_ hb15_ => ?_)
    (try simp only [xu_noneI] at hq15_)
    repeat (obtain ⟨_, hq15_⟩ : _ ∧ _ := hq15_)
    refine x_astore2 (M := mJ11_copyOf_3) (pc := 17) dJ11_copyOf_3_17 ?_
    refine x_aload_n (M := mJ11_copyOf_3) (pc := 18) dJ11_copyOf_3_18 rfl ?_
    refine x_iconst (M := mJ11_copyOf_3) (pc := 19) (v := nI 0) dJ11_copyOf_3_19 (by decide) ?_
    refine x_aload_n (M := mJ11_copyOf_3) (pc := 20) dJ11_copyOf_3_20 rfl ?_
    refine x_iconst (M := mJ11_copyOf_3) (pc := 21) (v := nI 0) dJ11_copyOf_3_21 (by decide) ?_
    have hne : a ≠ q15_ := fun e => by rw [← e, ha] at hq15_; cases hq15_
    have ha' : xu h q15_ (.inl (xdA g 2, n, .inl fun _ => 0)) a = some (.inl (xdA g 2, m, .inl f)) := (xu_n hne).trans ha
    refine x_aload_n (M := mJ11_copyOf_3) (pc := 22) dJ11_copyOf_3_22 rfl ?_
    refine x_alen (M := mJ11_copyOf_3) (pc := 23) dJ11_copyOf_3_23 (by first | assumption | exact xu_s _ _ _ | exact (xu_n (by first | assumption | exact Ne.symm (by assumption) | exact xu_fresh (by assumption) (by assumption) | exact (xu_fresh (by assumption) (by assumption)).symm)).trans (by first | assumption | exact xu_s _ _ _ | exact (xu_n (by first | assumption | exact Ne.symm (by assumption) | exact xu_fresh (by assumption) (by assumption) | exact (xu_fresh (by assumption) (by assumption)).symm)).trans (by first | assumption | exact xu_s _ _ _ | exact (xu_n (by first | assumption | exact Ne.symm (by assumption) | exact xu_fresh (by assumption) (by assumption) | exact (xu_fresh (by assumption) (by assumption)).symm)).trans (by first | assumption | exact xu_s _ _ _)))) rfl ?_
    refine x_iload_n (M := mJ11_copyOf_3) (pc := 24) dJ11_copyOf_3_24 rfl ?_
    refine x_mmin (M := mJ11_copyOf_3) (pc := 25) q680 dJ11_copyOf_3_25 (by omega) (by omega) (by first | assumption | omega) (by first | exact Nat.le_of_ble_eq_true rfl | omega) (by first | exact Nat.le_of_ble_eq_true rfl | omega) (by first | exact Nat.le_of_ble_eq_true rfl | (simp [xcat_rf, Value.category])) ?_
    skip
    refine x_copyP (M := mJ11_copyOf_3) (pc := 28) (t := 2) (f := f) (f1 := fun _ => 0) q683 dJ11_copyOf_3_28 ha' (xu_s _ _ _) rfl rfl (fun i hi => by rw [Nat.zero_add]; exact hfit i (by omega)) (by omega) (by omega) (by omega) (by omega) hd (Nat.le_of_ble_eq_true rfl) ?_
    refine x_aload_n (M := mJ11_copyOf_3) (pc := 31) dJ11_copyOf_3_31 rfl ?_
    refine x_aret (M := mJ11_copyOf_3) (pc := 32) dJ11_copyOf_3_32 rfl (by first | exact Or.inl ⟨_, rfl⟩ | exact Or.inr ⟨_, rfl⟩) (by first | exact Nat.le_of_ble_eq_true rfl | omega) (by first | exact Nat.le_of_ble_eq_true rfl | omega) ?_
    refine ⟨q15_, rfl, hq15_, ?_⟩
    rw [xu_xu]
    congr 1; congr 1; congr 1; congr 1; congr 1
    funext k; unfold va_cpy; simp [show min m n = m by omega]
  · omega
theorem j_newCapacity (h : xH) (a arr n m d : Nat) (v2 v3 : Value) (f : Nat → Int32) (hd : 2 ≤ d) (ha : h a = some (.inr (30, [.ref arr, .int (nI 0), v2, v3]))) (hb : h arr = some (.inl (xdA g 2, n, .inl f))) (hn : n < 2 ^ 16) (hm : n < m) (hm2 : m ≤ n + 2) : Ct g l mJ4_newCapacity d 0 0 [.ref a, .int (nI m)] h (fun o h' => o = .inl (some (.int (nI (n + (n + 2))))) ∧ h' = h) := by
  refine Ct.of [some (.ref a), some (.int (nI m)), none, none, none, none] (by decide +kernel) rfl (Nat.le_of_ble_eq_true rfl) rfl rfl ?_
  refine x_aload_n (M := mJ4_newCapacity) (pc := 0) dJ4_newCapacity_0 rfl ?_
  refine x_get (M := mJ4_newCapacity) (pc := 1) kcJ5 0 rfl q354 dJ4_newCapacity_1 (by first | assumption | exact xu_s _ _ _ | exact (xu_n (by first | assumption | exact Ne.symm (by assumption) | exact xu_fresh (by assumption) (by assumption) | exact (xu_fresh (by assumption) (by assumption)).symm)).trans (by first | assumption | exact xu_s _ _ _ | exact (xu_n (by first | assumption | exact Ne.symm (by assumption) | exact xu_fresh (by assumption) (by assumption) | exact (xu_fresh (by assumption) (by assumption)).symm)).trans (by first | assumption | exact xu_s _ _ _ | exact (xu_n (by first | assumption | exact Ne.symm (by assumption) | exact xu_fresh (by assumption) (by assumption) | exact (xu_fresh (by assumption) (by assumption)).symm)).trans (by first | assumption | exact xu_s _ _ _)))) rfl ?_
  refine x_alen (M := mJ4_newCapacity) (pc := 4) dJ4_newCapacity_4 (by first | assumption | exact xu_s _ _ _ | exact (xu_n (by first | assumption | exact Ne.symm (by assumption) | exact xu_fresh (by assumption) (by assumption) | exact (xu_fresh (by assumption) (by assumption)).symm)).trans (by first | assumption | exact xu_s _ _ _ | exact (xu_n (by first | assumption | exact Ne.symm (by assumption) | exact xu_fresh (by assumption) (by assumption) | exact (xu_fresh (by assumption) (by assumption)).symm)).trans (by first | assumption | exact xu_s _ _ _ | exact (xu_n (by first | assumption | exact Ne.symm (by assumption) | exact xu_fresh (by assumption) (by assumption) | exact (xu_fresh (by assumption) (by assumption)).symm)).trans (by first | assumption | exact xu_s _ _ _)))) rfl ?_
  refine x_istore2 (M := mJ4_newCapacity) (pc := 5) dJ4_newCapacity_5 ?_
  refine x_iload_n (M := mJ4_newCapacity) (pc := 6) dJ4_newCapacity_6 rfl ?_
  refine x_aload_n (M := mJ4_newCapacity) (pc := 7) dJ4_newCapacity_7 rfl ?_
  refine x_get (M := mJ4_newCapacity) (pc := 8) kcJ5 1 rfl q355 dJ4_newCapacity_8 (by first | assumption | exact xu_s _ _ _ | exact (xu_n (by first | assumption | exact Ne.symm (by assumption) | exact xu_fresh (by assumption) (by assumption) | exact (xu_fresh (by assumption) (by assumption)).symm)).trans (by first | assumption | exact xu_s _ _ _ | exact (xu_n (by first | assumption | exact Ne.symm (by assumption) | exact xu_fresh (by assumption) (by assumption) | exact (xu_fresh (by assumption) (by assumption)).symm)).trans (by first | assumption | exact xu_s _ _ _ | exact (xu_n (by first | assumption | exact Ne.symm (by assumption) | exact xu_fresh (by assumption) (by assumption) | exact (xu_fresh (by assumption) (by assumption)).symm)).trans (by first | assumption | exact xu_s _ _ _)))) rfl ?_
  refine x_ishl (M := mJ4_newCapacity) (pc := 11) dJ4_newCapacity_11 ?_
  refine x_val (M := mJ4_newCapacity) (pc := 12) (nI_shl (a := m) (by omega) (by omega)) ?_
  refine x_istore3 (M := mJ4_newCapacity) (pc := 12) dJ4_newCapacity_12 ?_
  refine x_iload_n (M := mJ4_newCapacity) (pc := 13) dJ4_newCapacity_13 rfl ?_
  refine x_iload_n (M := mJ4_newCapacity) (pc := 14) dJ4_newCapacity_14 rfl ?_
  first | with_reducible refine x_isubN (M := mJ4_newCapacity) (pc := 15) dJ4_newCapacity_15 (by omega) ?_ | refine x_isub (M := mJ4_newCapacity) (pc := 15) dJ4_newCapacity_15 ?_
  refine x_istore4 (M := mJ4_newCapacity) (pc := 16) dJ4_newCapacity_16 ?_
  refine x_iload_n (M := mJ4_newCapacity) (pc := 18) dJ4_newCapacity_18 rfl ?_
  refine x_iload (M := mJ4_newCapacity) (pc := 19) dJ4_newCapacity_19 rfl ?_
  refine x_iload_n (M := mJ4_newCapacity) (pc := 21) dJ4_newCapacity_21 rfl ?_
  refine x_iconst (M := mJ4_newCapacity) (pc := 22) (v := nI 2) dJ4_newCapacity_22 (by decide) ?_
  refine x_aload_n (M := mJ4_newCapacity) (pc := 23) dJ4_newCapacity_23 rfl ?_
  refine x_get (M := mJ4_newCapacity) (pc := 24) kcJ5 1 rfl q355 dJ4_newCapacity_24 (by first | assumption | exact xu_s _ _ _ | exact (xu_n (by first | assumption | exact Ne.symm (by assumption) | exact xu_fresh (by assumption) (by assumption) | exact (xu_fresh (by assumption) (by assumption)).symm)).trans (by first | assumption | exact xu_s _ _ _ | exact (xu_n (by first | assumption | exact Ne.symm (by assumption) | exact xu_fresh (by assumption) (by assumption) | exact (xu_fresh (by assumption) (by assumption)).symm)).trans (by first | assumption | exact xu_s _ _ _ | exact (xu_n (by first | assumption | exact Ne.symm (by assumption) | exact xu_fresh (by assumption) (by assumption) | exact (xu_fresh (by assumption) (by assumption)).symm)).trans (by first | assumption | exact xu_s _ _ _)))) rfl ?_
  refine x_ishl (M := mJ4_newCapacity) (pc := 27) dJ4_newCapacity_27 ?_
  refine x_val (M := mJ4_newCapacity) (pc := 28) (nI_shl (a := 2) (by omega) (by omega)) ?_
  first | with_reducible refine x_iaddN (M := mJ4_newCapacity) (pc := 28) dJ4_newCapacity_28 ?_ | refine x_iadd (M := mJ4_newCapacity) (pc := 28) dJ4_newCapacity_28 ?_
  refine x_S3 (M := mJ4_newCapacity) (pc := 29) (M' := mJ22_newLength) q1633 kSJ22_newLength dJ4_newCapacity_29 (j_newLength h n (m * 2 ^ 0 - n) (n + 2 * 2 ^ 0) (d - 1) (by omega) (by omega) (by omega) (by omega) (by omega)) (fun v_ h hq_ => ?_)
  obtain ⟨hv_, rfl⟩ := hq_; cases hv_
  refine x_istore5 (M := mJ4_newCapacity) (pc := 32) dJ4_newCapacity_32 ?_
  refine x_iload (M := mJ4_newCapacity) (pc := 34) dJ4_newCapacity_34 rfl ?_
  skip
  refine x_ldc (M := mJ4_newCapacity) (pc := 36) dJ4_newCapacity_36 q1634 ?_
  refine x_val (M := mJ4_newCapacity) (pc := 38) (w := nI 2147483647) rfl ?_
  first | with_reducible refine x_icmp_neN (M := mJ4_newCapacity) (pc := 38) 51 dJ4_newCapacity_38 (by decide) (by omega) (by omega) (fun c38 => ?_) (fun c38 => ?_) | refine x_icmp_ne (M := mJ4_newCapacity) (pc := 38) 51 dJ4_newCapacity_38 (by decide) (fun c38 => ?_) (fun c38 => ?_)
  · refine x_iload (M := mJ4_newCapacity) (pc := 51) dJ4_newCapacity_51 rfl ?_
    refine x_aload_n (M := mJ4_newCapacity) (pc := 53) dJ4_newCapacity_53 rfl ?_
    refine x_get (M := mJ4_newCapacity) (pc := 54) kcJ5 1 rfl q355 dJ4_newCapacity_54 (by first | assumption | exact xu_s _ _ _ | exact (xu_n (by first | assumption | exact Ne.symm (by assumption) | exact xu_fresh (by assumption) (by assumption) | exact (xu_fresh (by assumption) (by assumption)).symm)).trans (by first | assumption | exact xu_s _ _ _ | exact (xu_n (by first | assumption | exact Ne.symm (by assumption) | exact xu_fresh (by assumption) (by assumption) | exact (xu_fresh (by assumption) (by assumption)).symm)).trans (by first | assumption | exact xu_s _ _ _ | exact (xu_n (by first | assumption | exact Ne.symm (by assumption) | exact xu_fresh (by assumption) (by assumption) | exact (xu_fresh (by assumption) (by assumption)).symm)).trans (by first | assumption | exact xu_s _ _ _)))) rfl ?_
    refine x_ishr (M := mJ4_newCapacity) (pc := 57) dJ4_newCapacity_57 ?_
    refine x_val (M := mJ4_newCapacity) (pc := 58) (nI_shr (by omega) (by omega)) ?_
    refine x_iret (M := mJ4_newCapacity) (pc := 58) dJ4_newCapacity_58 rfl (by first | exact Nat.le_of_ble_eq_true rfl | omega) (by first | exact Nat.le_of_ble_eq_true rfl | omega) ?_
    exact ⟨congrArg (fun z => Sum.inl (some (Value.int (nI z)))) (by omega), rfl⟩
  · omega
theorem sub_le0 {a b : Nat} (h : a ≤ b) (hb : b < 2 ^ 30) : nI a - nI b ≤ 0 := by
  rw [Int32.le_iff_toInt_le, Int32.toInt_sub, nI_toInt (by omega), nI_toInt (by omega), Int.bmod_eq_of_le (by omega) (by omega)]
  show _ ≤ (0 : Int)
  omega
theorem j_ensure (h : xH) (a arr cap m d : Nat) (v2 v3 : Value) (f : Nat → Int32) (hd : 3 ≤ d) (ha : h a = some (.inr (30, [.ref arr, .int (nI 0), v2, v3]))) (hb : h arr = some (.inl (xdA g 2, cap, .inl f))) (hfit : ∀ k, k < cap → fits .byte (.int (f k)) = true) (hn : cap < 2 ^ 16) (hm : m ≤ cap + 1) : Ct g l mJ4_ensureCapacityInternal d 1 (2 * cap + 2) [.ref a, .int (nI m)] h (fun o h' => o = .inl none ∧ ((m ≤ cap ∧ h' = h) ∨ ∃ q, h q = none ∧ cap < m ∧ h' = xu (xu h q (.inl (xdA g 2, 2 * cap + 2, .inl (fun k => if k < cap then f k else 0)))) a (.inr (30, [.ref q, .int (nI 0), v2, v3])))) := by
  by_cases hle : m ≤ cap
  · refine Ct.of [some (.ref a), some (.int (nI m)), none] (by decide +kernel) rfl (Nat.le_of_ble_eq_true rfl) rfl rfl ?_
    refine x_aload_n (M := mJ4_ensureCapacityInternal) (pc := 0) dJ4_ensureCapacityInternal_0 rfl ?_
    refine x_get (M := mJ4_ensureCapacityInternal) (pc := 1) kcJ5 0 rfl q354 dJ4_ensureCapacityInternal_1 (by first | assumption | exact xu_s _ _ _ | exact (xu_n (by first | assumption | exact Ne.symm (by assumption) | exact xu_fresh (by assumption) (by assumption) | exact (xu_fresh (by assumption) (by assumption)).symm)).trans (by first | assumption | exact xu_s _ _ _ | exact (xu_n (by first | assumption | exact Ne.symm (by assumption) | exact xu_fresh (by assumption) (by assumption) | exact (xu_fresh (by assumption) (by assumption)).symm)).trans (by first | assumption | exact xu_s _ _ _ | exact (xu_n (by first | assumption | exact Ne.symm (by assumption) | exact xu_fresh (by assumption) (by assumption) | exact (xu_fresh (by assumption) (by assumption)).symm)).trans (by first | assumption | exact xu_s _ _ _)))) rfl ?_
    refine x_alen (M := mJ4_ensureCapacityInternal) (pc := 4) dJ4_ensureCapacityInternal_4 (by first | assumption | exact xu_s _ _ _ | exact (xu_n (by first | assumption | exact Ne.symm (by assumption) | exact xu_fresh (by assumption) (by assumption) | exact (xu_fresh (by assumption) (by assumption)).symm)).trans (by first | assumption | exact xu_s _ _ _ | exact (xu_n (by first | assumption | exact Ne.symm (by assumption) | exact xu_fresh (by assumption) (by assumption) | exact (xu_fresh (by assumption) (by assumption)).symm)).trans (by first | assumption | exact xu_s _ _ _ | exact (xu_n (by first | assumption | exact Ne.symm (by assumption) | exact xu_fresh (by assumption) (by assumption) | exact (xu_fresh (by assumption) (by assumption)).symm)).trans (by first | assumption | exact xu_s _ _ _)))) rfl ?_
    refine x_aload_n (M := mJ4_ensureCapacityInternal) (pc := 5) dJ4_ensureCapacityInternal_5 rfl ?_
    refine x_get (M := mJ4_ensureCapacityInternal) (pc := 6) kcJ5 1 rfl q355 dJ4_ensureCapacityInternal_6 (by first | assumption | exact xu_s _ _ _ | exact (xu_n (by first | assumption | exact Ne.symm (by assumption) | exact xu_fresh (by assumption) (by assumption) | exact (xu_fresh (by assumption) (by assumption)).symm)).trans (by first | assumption | exact xu_s _ _ _ | exact (xu_n (by first | assumption | exact Ne.symm (by assumption) | exact xu_fresh (by assumption) (by assumption) | exact (xu_fresh (by assumption) (by assumption)).symm)).trans (by first | assumption | exact xu_s _ _ _ | exact (xu_n (by first | assumption | exact Ne.symm (by assumption) | exact xu_fresh (by assumption) (by assumption) | exact (xu_fresh (by assumption) (by assumption)).symm)).trans (by first | assumption | exact xu_s _ _ _)))) rfl ?_
    refine x_ishr (M := mJ4_ensureCapacityInternal) (pc := 9) dJ4_ensureCapacityInternal_9 ?_
    refine x_val (M := mJ4_ensureCapacityInternal) (pc := 10) (nI_shr (a := cap) (by omega) (by omega)) ?_
    refine x_istore2 (M := mJ4_ensureCapacityInternal) (pc := 10) dJ4_ensureCapacityInternal_10 ?_
    refine x_iload_n (M := mJ4_ensureCapacityInternal) (pc := 11) dJ4_ensureCapacityInternal_11 rfl ?_
    refine x_iload_n (M := mJ4_ensureCapacityInternal) (pc := 12) dJ4_ensureCapacityInternal_12 rfl ?_
    skip
    refine x_isub (M := mJ4_ensureCapacityInternal) (pc := 13) dJ4_ensureCapacityInternal_13 ?_
    refine x_if_le (M := mJ4_ensureCapacityInternal) (pc := 14) 38 dJ4_ensureCapacityInternal_14 (by decide) (fun _ => ?_) (fun c => absurd (sub_le0 (by omega) (by omega)) c)
    refine x_vret (M := mJ4_ensureCapacityInternal) (pc := 38) dJ4_ensureCapacityInternal_38 rfl (by first | exact Nat.le_of_ble_eq_true rfl | omega) (by first | exact Nat.le_of_ble_eq_true rfl | omega) ?_
    exact ⟨rfl, Or.inl ⟨hle, rfl⟩⟩
  · refine Ct.of [some (.ref a), some (.int (nI m)), none] (by decide +kernel) rfl (Nat.le_of_ble_eq_true rfl) rfl rfl ?_
    refine x_aload_n (M := mJ4_ensureCapacityInternal) (pc := 0) dJ4_ensureCapacityInternal_0 rfl ?_
    refine x_get (M := mJ4_ensureCapacityInternal) (pc := 1) kcJ5 0 rfl q354 dJ4_ensureCapacityInternal_1 (by first | assumption | exact xu_s _ _ _ | exact (xu_n (by first | assumption | exact Ne.symm (by assumption) | exact xu_fresh (by assumption) (by assumption) | exact (xu_fresh (by assumption) (by assumption)).symm)).trans (by first | assumption | exact xu_s _ _ _ | exact (xu_n (by first | assumption | exact Ne.symm (by assumption) | exact xu_fresh (by assumption) (by assumption) | exact (xu_fresh (by assumption) (by assumption)).symm)).trans (by first | assumption | exact xu_s _ _ _ | exact (xu_n (by first | assumption | exact Ne.symm (by assumption) | exact xu_fresh (by assumption) (by assumption) | exact (xu_fresh (by assumption) (by assumption)).symm)).trans (by first | assumption | exact xu_s _ _ _)))) rfl ?_
    refine x_alen (M := mJ4_ensureCapacityInternal) (pc := 4) dJ4_ensureCapacityInternal_4 (by first | assumption | exact xu_s _ _ _ | exact (xu_n (by first | assumption | exact Ne.symm (by assumption) | exact xu_fresh (by assumption) (by assumption) | exact (xu_fresh (by assumption) (by assumption)).symm)).trans (by first | assumption | exact xu_s _ _ _ | exact (xu_n (by first | assumption | exact Ne.symm (by assumption) | exact xu_fresh (by assumption) (by assumption) | exact (xu_fresh (by assumption) (by assumption)).symm)).trans (by first | assumption | exact xu_s _ _ _ | exact (xu_n (by first | assumption | exact Ne.symm (by assumption) | exact xu_fresh (by assumption) (by assumption) | exact (xu_fresh (by assumption) (by assumption)).symm)).trans (by first | assumption | exact xu_s _ _ _)))) rfl ?_
    refine x_aload_n (M := mJ4_ensureCapacityInternal) (pc := 5) dJ4_ensureCapacityInternal_5 rfl ?_
    refine x_get (M := mJ4_ensureCapacityInternal) (pc := 6) kcJ5 1 rfl q355 dJ4_ensureCapacityInternal_6 (by first | assumption | exact xu_s _ _ _ | exact (xu_n (by first | assumption | exact Ne.symm (by assumption) | exact xu_fresh (by assumption) (by assumption) | exact (xu_fresh (by assumption) (by assumption)).symm)).trans (by first | assumption | exact xu_s _ _ _ | exact (xu_n (by first | assumption | exact Ne.symm (by assumption) | exact xu_fresh (by assumption) (by assumption) | exact (xu_fresh (by assumption) (by assumption)).symm)).trans (by first | assumption | exact xu_s _ _ _ | exact (xu_n (by first | assumption | exact Ne.symm (by assumption) | exact xu_fresh (by assumption) (by assumption) | exact (xu_fresh (by assumption) (by assumption)).symm)).trans (by first | assumption | exact xu_s _ _ _)))) rfl ?_
    refine x_ishr (M := mJ4_ensureCapacityInternal) (pc := 9) dJ4_ensureCapacityInternal_9 ?_
    refine x_val (M := mJ4_ensureCapacityInternal) (pc := 10) (nI_shr (a := cap) (by omega) (by omega)) ?_
    refine x_istore2 (M := mJ4_ensureCapacityInternal) (pc := 10) dJ4_ensureCapacityInternal_10 ?_
    refine x_iload_n (M := mJ4_ensureCapacityInternal) (pc := 11) dJ4_ensureCapacityInternal_11 rfl ?_
    refine x_iload_n (M := mJ4_ensureCapacityInternal) (pc := 12) dJ4_ensureCapacityInternal_12 rfl ?_
    first | with_reducible refine x_isubN (M := mJ4_ensureCapacityInternal) (pc := 13) dJ4_ensureCapacityInternal_13 (by omega) ?_ | refine x_isub (M := mJ4_ensureCapacityInternal) (pc := 13) dJ4_ensureCapacityInternal_13 ?_
    skip
    first | with_reducible refine x_if_leN (M := mJ4_ensureCapacityInternal) (pc := 14) 38 dJ4_ensureCapacityInternal_14 (by decide) (by omega) (fun c14 => ?_) (fun c14 => ?_) | refine x_if_le (M := mJ4_ensureCapacityInternal) (pc := 14) 38 dJ4_ensureCapacityInternal_14 (by decide) (fun c14 => ?_) (fun c14 => ?_)
    · omega
    · refine x_aload_n (M := mJ4_ensureCapacityInternal) (pc := 17) dJ4_ensureCapacityInternal_17 rfl ?_
      refine x_aload_n (M := mJ4_ensureCapacityInternal) (pc := 18) dJ4_ensureCapacityInternal_18 rfl ?_
      refine x_get (M := mJ4_ensureCapacityInternal) (pc := 19) kcJ5 0 rfl q354 dJ4_ensureCapacityInternal_19 (by first | assumption | exact xu_s _ _ _ | exact (xu_n (by first | assumption | exact Ne.symm (by assumption) | exact xu_fresh (by assumption) (by assumption) | exact (xu_fresh (by assumption) (by assumption)).symm)).trans (by first | assumption | exact xu_s _ _ _ | exact (xu_n (by first | assumption | exact Ne.symm (by assumption) | exact xu_fresh (by assumption) (by assumption) | exact (xu_fresh (by assumption) (by assumption)).symm)).trans (by first | assumption | exact xu_s _ _ _ | exact (xu_n (by first | assumption | exact Ne.symm (by assumption) | exact xu_fresh (by assumption) (by assumption) | exact (xu_fresh (by assumption) (by assumption)).symm)).trans (by first | assumption | exact xu_s _ _ _)))) rfl ?_
      refine x_aload_n (M := mJ4_ensureCapacityInternal) (pc := 22) dJ4_ensureCapacityInternal_22 rfl ?_
      refine x_iload_n (M := mJ4_ensureCapacityInternal) (pc := 23) dJ4_ensureCapacityInternal_23 rfl ?_
      refine x_GUp (M := mJ4_ensureCapacityInternal) (pc := 24) (M' := mJ4_newCapacity) (C := "java/lang/StringBuilder") (x := mJ4_newCapacity.1) (As := [.int (nI m)]) q1629 q3319 (List.Mem.tail _ (List.Mem.tail _ (List.Mem.tail _ (List.Mem.head _)))) q1631 kCJ4_newCapacity rfl dJ4_ensureCapacityInternal_24 (j_newCapacity h a arr cap m (d - 1) v2 v3 f (by omega) ha hb hn (by omega) (by omega)) (xIs.of kcJ5 ha) rfl rfl (by omega) (by omega) (by omega) (by intro q h' hh; simp at hh) (Nat.le_of_ble_eq_true rfl) (fun v_ h1 hq_ => ?_)
      obtain ⟨hv_, rfl⟩ := hq_; cases hv_
      refine x_aload_n (M := mJ4_ensureCapacityInternal) (pc := 27) dJ4_ensureCapacityInternal_27 rfl ?_
      refine x_get (M := mJ4_ensureCapacityInternal) (pc := 28) kcJ5 1 rfl q355 dJ4_ensureCapacityInternal_28 (by first | assumption | exact xu_s _ _ _ | exact (xu_n (by first | assumption | exact Ne.symm (by assumption) | exact xu_fresh (by assumption) (by assumption) | exact (xu_fresh (by assumption) (by assumption)).symm)).trans (by first | assumption | exact xu_s _ _ _ | exact (xu_n (by first | assumption | exact Ne.symm (by assumption) | exact xu_fresh (by assumption) (by assumption) | exact (xu_fresh (by assumption) (by assumption)).symm)).trans (by first | assumption | exact xu_s _ _ _ | exact (xu_n (by first | assumption | exact Ne.symm (by assumption) | exact xu_fresh (by assumption) (by assumption) | exact (xu_fresh (by assumption) (by assumption)).symm)).trans (by first | assumption | exact xu_s _ _ _)))) rfl ?_
      refine x_ishl (M := mJ4_ensureCapacityInternal) (pc := 31) dJ4_ensureCapacityInternal_31 ?_
      refine x_val (M := mJ4_ensureCapacityInternal) (pc := 32) (nI_shl (by omega) (by omega)) ?_
      refine x_S2 (M := mJ4_ensureCapacityInternal) (pc := 32) (M' := mJ11_copyOf_3) q1635 kSJ11_copyOf_3 dJ4_ensureCapacityInternal_32 (j_copyOfB h1 arr cap ((cap + (cap + 2)) * 2 ^ 0) (d - 1) f (by omega) hb (by omega) (by omega) (by omega) hfit) (fun v_ h hq_ => ?_)
      obtain ⟨q, hv_, hq, rfl⟩ := hq_; cases hv_
      first | refine x_put0' (M := mJ4_ensureCapacityInternal) (pc := 35) kcJ5 q354 dJ4_ensureCapacityInternal_35 ?_ | refine x_put0 (M := mJ4_ensureCapacityInternal) (pc := 35) kcJ5 q354 dJ4_ensureCapacityInternal_35 (by first | assumption | exact xu_s _ _ _ | exact (xu_n (by first | assumption | exact Ne.symm (by assumption) | exact xu_fresh (by assumption) (by assumption) | exact (xu_fresh (by assumption) (by assumption)).symm)).trans (by first | assumption | exact xu_s _ _ _ | exact (xu_n (by first | assumption | exact Ne.symm (by assumption) | exact xu_fresh (by assumption) (by assumption) | exact (xu_fresh (by assumption) (by assumption)).symm)).trans (by first | assumption | exact xu_s _ _ _ | exact (xu_n (by first | assumption | exact Ne.symm (by assumption) | exact xu_fresh (by assumption) (by assumption) | exact (xu_fresh (by assumption) (by assumption)).symm)).trans (by first | assumption | exact xu_s _ _ _)))) ?_
      refine x_vret (M := mJ4_ensureCapacityInternal) (pc := 38) dJ4_ensureCapacityInternal_38 rfl (by first | exact Nat.le_of_ble_eq_true rfl | omega) (by first | exact Nat.le_of_ble_eq_true rfl | omega) ?_
      exact ⟨rfl, Or.inr ⟨q, hq, by omega, by rw [show 2 * cap + 2 = (cap + (cap + 2)) * 2 ^ 0 by omega]⟩⟩
theorem j_asbLatin (h : xH) (a d : Nat) (v0 v2 v3 : Value) (ha : h a = some (.inr (30, [v0, .int (nI 0), v2, v3]))) : Ct g l mJ4_isLatin1 d 0 0 [.ref a] h (fun o h' => o = .inl (some (.int (bI true))) ∧ h' = h) := by
  refine Ct.of [some (.ref a)] (by decide +kernel) rfl (Nat.le_of_ble_eq_true rfl) rfl rfl ?_
  refine x_gets (M := mJ4_isLatin1) (pc := 0) 5 q345 dJ4_isLatin1_0 rfl ?_
  refine x_if_eq (M := mJ4_isLatin1) (pc := 3) 17 dJ4_isLatin1_3 (by decide) (fun r_3 => ?_) (fun r_3 => ?_)
  · exact absurd r_3 (by decide)
  · refine x_aload_n (M := mJ4_isLatin1) (pc := 6) dJ4_isLatin1_6 rfl ?_
    refine x_get (M := mJ4_isLatin1) (pc := 7) kcJ5 1 rfl q355 dJ4_isLatin1_7 (by first | assumption | exact xu_s _ _ _ | exact (xu_n (by first | assumption | exact Ne.symm (by assumption) | exact xu_fresh (by assumption) (by assumption) | exact (xu_fresh (by assumption) (by assumption)).symm)).trans (by first | assumption | exact xu_s _ _ _ | exact (xu_n (by first | assumption | exact Ne.symm (by assumption) | exact xu_fresh (by assumption) (by assumption) | exact (xu_fresh (by assumption) (by assumption)).symm)).trans (by first | assumption | exact xu_s _ _ _ | exact (xu_n (by first | assumption | exact Ne.symm (by assumption) | exact xu_fresh (by assumption) (by assumption) | exact (xu_fresh (by assumption) (by assumption)).symm)).trans (by first | assumption | exact xu_s _ _ _)))) rfl ?_
    refine x_if_ne (M := mJ4_isLatin1) (pc := 10) 17 dJ4_isLatin1_10 (by decide) (fun r_10 => ?_) (fun r_10 => ?_)
    · exact absurd rfl r_10
    · refine x_iconst (M := mJ4_isLatin1) (pc := 13) (v := nI 1) dJ4_isLatin1_13 (by decide) ?_
      refine x_goto (M := mJ4_isLatin1) (pc := 14) 18 dJ4_isLatin1_14 (by decide) ?_
      refine x_zret (M := mJ4_isLatin1) (pc := 18) dJ4_isLatin1_18 rfl (by first | with_reducible exact xz0 | with_reducible exact xz1 | with_reducible exact bI_01 _ | with_reducible assumption | assumption) (by first | exact Nat.le_of_ble_eq_true rfl | omega) (by first | exact Nat.le_of_ble_eq_true rfl | omega) ?_
      exact ⟨rfl, rfl⟩
theorem j_canEncode (h : xH) (c d : Nat) (hc : c < 256) : Ct g l mJ25_canEncode d 0 0 [.int (nI c)] h (fun o h' => o = .inl (some (.int (bI true))) ∧ h' = h) := by
  refine Ct.of [some (.int (nI c))] (by decide +kernel) rfl (Nat.le_of_ble_eq_true rfl) rfl rfl ?_
  refine x_iload_n (M := mJ25_canEncode) (pc := 0) dJ25_canEncode_0 rfl ?_
  refine x_sipush (M := mJ25_canEncode) (pc := 1) (v := nI 255) dJ25_canEncode_1 (by decide) ?_
  first | with_reducible refine x_icmp_gtN (M := mJ25_canEncode) (pc := 4) 11 dJ25_canEncode_4 (by decide) (by omega) (by omega) (fun c4 => ?_) (fun c4 => ?_) | refine x_icmp_gt (M := mJ25_canEncode) (pc := 4) 11 dJ25_canEncode_4 (by decide) (fun c4 => ?_) (fun c4 => ?_)
  · omega
  · refine x_iconst (M := mJ25_canEncode) (pc := 7) (v := nI 1) dJ25_canEncode_7 (by decide) ?_
    refine x_goto (M := mJ25_canEncode) (pc := 8) 12 dJ25_canEncode_8 (by decide) ?_
    refine x_zret (M := mJ25_canEncode) (pc := 12) dJ25_canEncode_12 rfl (by first | with_reducible exact xz0 | with_reducible exact xz1 | with_reducible exact bI_01 _ | with_reducible assumption | assumption) (by first | exact Nat.le_of_ble_eq_true rfl | omega) (by first | exact Nat.le_of_ble_eq_true rfl | omega) ?_
    exact ⟨rfl, rfl⟩
theorem j_asbAppend (h : xH) (a arr n c d : Nat) (tx : Nat → Nat) (hd : 4 ≤ d) (hA : SB g h a arr n tx) (hn : n < 120) (hc : c < 256) : Ct g l mJ4_append d 1 1000 [.ref a, .int (nI c)] h (fun o h' => o = .inl (some (.ref a)) ∧ ∃ arr', SB g h' a arr' (n + 1) (fun k => if k = n then c else tx k) ∧ xle2 a arr h h' ∧ (arr' = arr ∨ h arr' = none)) := by
  obtain ⟨ml, cap, f, h0, ha, hb, h1, h2, h3, h4, h5, h6⟩ := hA
  have hch := char_all hc
  have body : ∀ (h' : xH) (arr' cap' : Nat) (f' : Nat → Int32) (uc us : Nat), uc ≤ 1 → us ≤ 1000 → h' a = some (.inr (30, [.ref arr', .int (nI 0), .int ml, .int (nI n)])) → h' arr' = some (.inl (xdA g 2, cap', .inl f')) → n < cap' → cap' ≤ 300 → arr' ≠ a → (∀ k, k < n → f' k = f k) → (∀ k, k < cap' → fits .byte (.int (f' k)) = true) → xle2 a arr h h' → (arr' = arr ∨ h arr' = none) → X g l mJ4_append d 1 1000 (fun o h' => o = .inl (some (.ref a)) ∧ ∃ arr', SB g h' a arr' (n + 1) (fun k => if k = n then c else tx k) ∧ xle2 a arr h h' ∧ (arr' = arr ∨ h arr' = none)) 10 [some (.ref a), some (.int (nI c))] [] h' uc us := by
    intro h' arr' cap' f' uc us hu1 hu2 ha' hb' k1 k2 k3 k4 k5 k6 k7
    refine x_aload_n (M := mJ4_append) (pc := 10) dJ4_append_10 rfl ?_
    refine x_GU (M := mJ4_append) (pc := 11) (M' := mJ4_isLatin1) (C := "java/lang/StringBuilder") (x := mJ4_isLatin1.1) (As := []) q1645 q1647 q1648 q1646 kCJ4_isLatin1 rfl dJ4_append_11 (j_asbLatin h' a (d - 1) _ _ _ ha') (xIs.of kcJ5 ha') rfl rfl (by omega) (by omega) (by omega) (by intro q h' hh; simp at hh) (Nat.le_of_ble_eq_true rfl) (fun v_ h1 hq_ => ?_)
    obtain ⟨hv_, rfl⟩ := hq_; cases hv_
    first | with_reducible refine x_ifB_eq (M := mJ4_append) (pc := 14) 45 dJ4_append_14 (by decide) (fun c14 => ?_) (fun c14 => ?_) | with_reducible refine x_if_eqN (M := mJ4_append) (pc := 14) 45 dJ4_append_14 (by decide) (by omega) (fun c14 => ?_) (fun c14 => ?_) | refine x_if_eq (M := mJ4_append) (pc := 14) 45 dJ4_append_14 (by decide) (fun c14 => ?_) (fun c14 => ?_)
    · exact absurd c14 (by decide)
    refine x_iload_n (M := mJ4_append) (pc := 17) dJ4_append_17 rfl ?_
    refine x_S1 (M := mJ4_append) (pc := 18) (M' := mJ25_canEncode) q1650 kSJ25_canEncode dJ4_append_18 (j_canEncode h1 c (d - 1) hc) (fun v_ h hq_ => ?_)
    obtain ⟨hv_, rfl⟩ := hq_; cases hv_
    first | with_reducible refine x_ifB_eq (M := mJ4_append) (pc := 21) 45 dJ4_append_21 (by decide) (fun c21 => ?_) (fun c21 => ?_) | with_reducible refine x_if_eqN (M := mJ4_append) (pc := 21) 45 dJ4_append_21 (by decide) (by omega) (fun c21 => ?_) (fun c21 => ?_) | refine x_if_eq (M := mJ4_append) (pc := 21) 45 dJ4_append_21 (by decide) (fun c21 => ?_) (fun c21 => ?_)
    · exact absurd c21 (by decide)
    refine x_aload_n (M := mJ4_append) (pc := 24) dJ4_append_24 rfl ?_
    refine x_get (M := mJ4_append) (pc := 25) kcJ5 0 rfl q354 dJ4_append_25 (by first | assumption | exact xu_s _ _ _ | exact (xu_n (by first | assumption | exact Ne.symm (by assumption) | exact xu_fresh (by assumption) (by assumption) | exact (xu_fresh (by assumption) (by assumption)).symm)).trans (by first | assumption | exact xu_s _ _ _ | exact (xu_n (by first | assumption | exact Ne.symm (by assumption) | exact xu_fresh (by assumption) (by assumption) | exact (xu_fresh (by assumption) (by assumption)).symm)).trans (by first | assumption | exact xu_s _ _ _ | exact (xu_n (by first | assumption | exact Ne.symm (by assumption) | exact xu_fresh (by assumption) (by assumption) | exact (xu_fresh (by assumption) (by assumption)).symm)).trans (by first | assumption | exact xu_s _ _ _)))) rfl ?_
    refine x_aload_n (M := mJ4_append) (pc := 28) dJ4_append_28 rfl ?_
    refine x_dup (M := mJ4_append) (pc := 29) dJ4_append_29 ?_
    refine x_get (M := mJ4_append) (pc := 30) kcJ5 3 rfl q357 dJ4_append_30 (by first | assumption | exact xu_s _ _ _ | exact (xu_n (by first | assumption | exact Ne.symm (by assumption) | exact xu_fresh (by assumption) (by assumption) | exact (xu_fresh (by assumption) (by assumption)).symm)).trans (by first | assumption | exact xu_s _ _ _ | exact (xu_n (by first | assumption | exact Ne.symm (by assumption) | exact xu_fresh (by assumption) (by assumption) | exact (xu_fresh (by assumption) (by assumption)).symm)).trans (by first | assumption | exact xu_s _ _ _ | exact (xu_n (by first | assumption | exact Ne.symm (by assumption) | exact xu_fresh (by assumption) (by assumption) | exact (xu_fresh (by assumption) (by assumption)).symm)).trans (by first | assumption | exact xu_s _ _ _)))) rfl ?_
    refine x_dup_x1 (M := mJ4_append) (pc := 33) dJ4_append_33 ?_
    refine x_iconst (M := mJ4_append) (pc := 34) (v := nI 1) dJ4_append_34 (by decide) ?_
    first | with_reducible refine x_iaddN (M := mJ4_append) (pc := 35) dJ4_append_35 ?_ | refine x_iadd (M := mJ4_append) (pc := 35) dJ4_append_35 ?_
    first | refine x_put3' (M := mJ4_append) (pc := 36) kcJ5 q357 dJ4_append_36 ?_ | refine x_put3 (M := mJ4_append) (pc := 36) kcJ5 q357 dJ4_append_36 (by first | assumption | exact xu_s _ _ _ | exact (xu_n (by first | assumption | exact Ne.symm (by assumption) | exact xu_fresh (by assumption) (by assumption) | exact (xu_fresh (by assumption) (by assumption)).symm)).trans (by first | assumption | exact xu_s _ _ _ | exact (xu_n (by first | assumption | exact Ne.symm (by assumption) | exact xu_fresh (by assumption) (by assumption) | exact (xu_fresh (by assumption) (by assumption)).symm)).trans (by first | assumption | exact xu_s _ _ _ | exact (xu_n (by first | assumption | exact Ne.symm (by assumption) | exact xu_fresh (by assumption) (by assumption) | exact (xu_fresh (by assumption) (by assumption)).symm)).trans (by first | assumption | exact xu_s _ _ _)))) ?_
    refine x_iload_n (M := mJ4_append) (pc := 39) dJ4_append_39 rfl ?_
    skip
    refine x_i2b (M := mJ4_append) (pc := 40) (v := byt c) dJ4_append_40 rfl ?_
    refine x_bastN (M := mJ4_append) (pc := 41) _ dJ4_append_41 (by first | assumption | exact xu_s _ _ _ | exact (xu_n (by first | assumption | exact Ne.symm (by assumption) | exact xu_fresh (by assumption) (by assumption) | exact (xu_fresh (by assumption) (by assumption)).symm)).trans (by first | assumption | exact xu_s _ _ _ | exact (xu_n (by first | assumption | exact Ne.symm (by assumption) | exact xu_fresh (by assumption) (by assumption) | exact (xu_fresh (by assumption) (by assumption)).symm)).trans (by first | assumption | exact xu_s _ _ _ | exact (xu_n (by first | assumption | exact Ne.symm (by assumption) | exact xu_fresh (by assumption) (by assumption) | exact (xu_fresh (by assumption) (by assumption)).symm)).trans (by first | assumption | exact xu_s _ _ _)))) (by first | rfl | assumption) (by first | assumption | omega) (by first | decide | omega) ?_
    refine x_goto (M := mJ4_append) (pc := 42) 75 dJ4_append_42 (by decide) ?_
    skip
    refine x_aload_n (M := mJ4_append) (pc := 75) dJ4_append_75 rfl ?_
    refine x_aret (M := mJ4_append) (pc := 76) dJ4_append_76 rfl (by first | exact Or.inl ⟨_, rfl⟩ | exact Or.inr ⟨_, rfl⟩) (by omega) (by omega) ⟨rfl, arr', ⟨ml, cap', _, h0, (xu_n (Ne.symm k3)).trans (xu_s _ _ _), xu_s _ _ _, by omega, by omega, by omega, k3, fun k hk => ?_, fun k hk => ?_⟩, fun b e n1 n2 hb => ?_, k7⟩
    · simp only [upd]
      by_cases q : k = n
      · rw [if_pos q, if_pos q]; exact ⟨hch.2.2.2.1, hc⟩
      · rw [if_neg q, if_neg q, k4 k (by omega)]; exact h5 k (by omega)
    · simp only [upd]
      by_cases q : k = n
      · rw [if_pos q]; unfold byt; rw [hch.2.2.2.1]; exact hch.2.2.2.2
      · rw [if_neg q]; exact k5 k hk
    · have n3 : b ≠ arr' := by
        rcases k7 with rfl | k7
        · exact n2
        · intro z; rw [z, k7] at hb; cases hb
      exact (xu_n n3).trans ((xu_n n1).trans (k6 b e n1 n2 hb))
  refine Ct.of [some (.ref a), some (.int (nI c))] (by decide +kernel) rfl (Nat.le_of_ble_eq_true rfl) rfl rfl ?_
  refine x_aload_n (M := mJ4_append) (pc := 0) dJ4_append_0 rfl ?_
  refine x_aload_n (M := mJ4_append) (pc := 1) dJ4_append_1 rfl ?_
  refine x_get (M := mJ4_append) (pc := 2) kcJ5 3 rfl q357 dJ4_append_2 (by first | assumption | exact xu_s _ _ _ | exact (xu_n (by first | assumption | exact Ne.symm (by assumption) | exact xu_fresh (by assumption) (by assumption) | exact (xu_fresh (by assumption) (by assumption)).symm)).trans (by first | assumption | exact xu_s _ _ _ | exact (xu_n (by first | assumption | exact Ne.symm (by assumption) | exact xu_fresh (by assumption) (by assumption) | exact (xu_fresh (by assumption) (by assumption)).symm)).trans (by first | assumption | exact xu_s _ _ _ | exact (xu_n (by first | assumption | exact Ne.symm (by assumption) | exact xu_fresh (by assumption) (by assumption) | exact (xu_fresh (by assumption) (by assumption)).symm)).trans (by first | assumption | exact xu_s _ _ _)))) rfl ?_
  refine x_iconst (M := mJ4_append) (pc := 5) (v := nI 1) dJ4_append_5 (by decide) ?_
  first | with_reducible refine x_iaddN (M := mJ4_append) (pc := 6) dJ4_append_6 ?_ | refine x_iadd (M := mJ4_append) (pc := 6) dJ4_append_6 ?_
  refine x_GUp (M := mJ4_append) (pc := 7) (M' := mJ4_ensureCapacityInternal) (C := "java/lang/StringBuilder") (x := mJ4_ensureCapacityInternal.1) (As := [.int (nI (n + 1))]) q1625 q3318 (List.Mem.tail _ (List.Mem.tail _ (List.Mem.head _))) q1627 kCJ4_ensureCapacityInternal rfl dJ4_append_7 (j_ensure h a arr cap (n + 1) (d - 1) _ _ f (by omega) ha hb h6 (by omega) (by omega)) (xIs.of kcJ5 ha) rfl rfl (by omega) (by omega) (by omega) (by intro q h' hh; simp at hh) (Nat.le_of_ble_eq_true rfl) (fun v_ h' hq_ => ?_)
  obtain ⟨hv_, w⟩ := hq_; cases hv_
  rcases w with ⟨w1, rfl⟩ | ⟨q, hq, w1, rfl⟩
  · exact body h' arr cap f _ _ (by omega) (by omega) ha hb (by omega) (by omega) h4 (fun _ _ => rfl) h6 (xle.rf.two _ _) (Or.inl rfl)
  · have hqa : q ≠ a := fun e => by rw [e, ha] at hq; cases hq
    refine body _ q (2 * cap + 2) _ _ _ (by omega) (by omega) (xu_s _ _ _) ((xu_n hqa).trans (xu_s _ _ _)) (by omega) (by omega) hqa (fun k hk => by rw [if_pos (by omega)]) (fun k hk => ?_) (fun b e n1 n2 hb => (xu_n n1).trans ((xu_n (fun z => by rw [z, hq] at hb; cases hb)).trans hb)) (Or.inr hq)
    by_cases z : k < cap
    · simp only [z, if_true]; exact h6 k z
    · simp only [z, if_false]; decide
theorem j_sbAppend (h : xH) (a arr n c d : Nat) (tx : Nat → Nat) (hd : 5 ≤ d) (hA : SB g h a arr n tx) (hn : n < 120) (hc : c < 256) : Ct g l mJ5_append d 1 1000 [.ref a, .int (nI c)] h (fun o h' => o = .inl (some (.ref a)) ∧ ∃ arr', SB g h' a arr' (n + 1) (fun k => if k = n then c else tx k) ∧ xle2 a arr h h' ∧ (arr' = arr ∨ h arr' = none)) := by
  refine Ct.of [some (.ref a), some (.int (nI c))] (by decide +kernel) rfl (Nat.le_of_ble_eq_true rfl) rfl rfl ?_
  refine x_aload_n (M := mJ5_append) (pc := 0) dJ5_append_0 rfl ?_
  refine x_iload_n (M := mJ5_append) (pc := 1) dJ5_append_1 rfl ?_
  refine x_GSU (M := mJ5_append) (pc := 2) (M' := mJ4_append) (As := [.int (nI c)]) q1622 q3317 q366 q1623 kCJ4_append (by decide) dJ5_append_2 (j_asbAppend h a arr n c (d - 1) tx (by omega) hA hn hc) hA.is sbAt rfl rfl (by omega) (by omega) (by omega) (by intro q h' hh; simp at hh) (Nat.le_of_ble_eq_true rfl) (fun v_ h1 hq_ => ?_)
  obtain ⟨hv_, w⟩ := hq_; cases hv_
  refine x_pop (M := mJ5_append) (pc := 5) dJ5_append_5 ?_
  refine x_aload_n (M := mJ5_append) (pc := 6) dJ5_append_6 rfl ?_
  refine x_aret (M := mJ5_append) (pc := 7) dJ5_append_7 rfl (by first | exact Or.inl ⟨_, rfl⟩ | exact Or.inr ⟨_, rfl⟩) (by first | exact Nat.le_of_ble_eq_true rfl | omega) (by first | exact Nat.le_of_ble_eq_true rfl | omega) ?_
  exact ⟨rfl, w⟩
theorem j_asbSetLen (h : xH) (a arr n d : Nat) (tx : Nat → Nat) (hd : 4 ≤ d) (hA : SB g h a arr n tx) : Ct g l mJ4_setLength d 1 1000 [.ref a, .int (nI 0)] h (fun o h' => o = .inl none ∧ SB g h' a arr 0 tx ∧ xle1 a h h') := by
  obtain ⟨ml, cap, f, h0, ha, hb, h1, h2, h3, h4, h5, h6⟩ := hA
  refine Ct.of [some (.ref a), some (.int (nI 0))] (by decide +kernel) rfl (Nat.le_of_ble_eq_true rfl) rfl rfl ?_
  refine x_iload_n (M := mJ4_setLength) (pc := 0) dJ4_setLength_0 rfl ?_
  refine x_if_ge (M := mJ4_setLength) (pc := 1) 13 dJ4_setLength_1 (by decide) (fun r_1 => ?_) (fun r_1 => ?_)
  · refine x_aload_n (M := mJ4_setLength) (pc := 13) dJ4_setLength_13 rfl ?_
    refine x_iload_n (M := mJ4_setLength) (pc := 14) dJ4_setLength_14 rfl ?_
    refine x_GUp (M := mJ4_setLength) (pc := 15) (M' := mJ4_ensureCapacityInternal) (C := "java/lang/StringBuilder") (x := mJ4_ensureCapacityInternal.1) (As := [.int (nI 0)]) q1625 q3318 (List.Mem.tail _ (List.Mem.tail _ (List.Mem.head _))) q1627 kCJ4_ensureCapacityInternal rfl dJ4_setLength_15 (j_ensure h a arr cap 0 (d - 1) _ _ f (by omega) ha hb h6 (by omega) (by omega)) (xIs.of kcJ5 ha) rfl rfl (by omega) (by omega) (by omega) (by intro q h' hh; simp at hh) (Nat.le_of_ble_eq_true rfl) (fun v_ h' hq_ => ?_)
    obtain ⟨hv_, w⟩ := hq_; cases hv_
    rcases w with ⟨-, rfl⟩ | ⟨q, -, w1, -⟩
    · refine x_aload_n (M := mJ4_setLength) (pc := 18) dJ4_setLength_18 rfl ?_
      refine x_get (M := mJ4_setLength) (pc := 19) kcJ5 3 rfl q357 dJ4_setLength_19 (by first | assumption | exact xu_s _ _ _ | exact (xu_n (by first | assumption | exact Ne.symm (by assumption) | exact xu_fresh (by assumption) (by assumption) | exact (xu_fresh (by assumption) (by assumption)).symm)).trans (by first | assumption | exact xu_s _ _ _ | exact (xu_n (by first | assumption | exact Ne.symm (by assumption) | exact xu_fresh (by assumption) (by assumption) | exact (xu_fresh (by assumption) (by assumption)).symm)).trans (by first | assumption | exact xu_s _ _ _ | exact (xu_n (by first | assumption | exact Ne.symm (by assumption) | exact xu_fresh (by assumption) (by assumption) | exact (xu_fresh (by assumption) (by assumption)).symm)).trans (by first | assumption | exact xu_s _ _ _)))) rfl ?_
      refine x_iload_n (M := mJ4_setLength) (pc := 22) dJ4_setLength_22 rfl ?_
      first | with_reducible refine x_icmp_geN (M := mJ4_setLength) (pc := 23) 63 dJ4_setLength_23 (by decide) (by omega) (by omega) (fun c23 => ?_) (fun c23 => ?_) | refine x_icmp_ge (M := mJ4_setLength) (pc := 23) 63 dJ4_setLength_23 (by decide) (fun c23 => ?_) (fun c23 => ?_)
      · refine x_aload_n (M := mJ4_setLength) (pc := 63) dJ4_setLength_63 rfl ?_
        refine x_get (M := mJ4_setLength) (pc := 64) kcJ5 3 rfl q357 dJ4_setLength_64 (by first | assumption | exact xu_s _ _ _ | exact (xu_n (by first | assumption | exact Ne.symm (by assumption) | exact xu_fresh (by assumption) (by assumption) | exact (xu_fresh (by assumption) (by assumption)).symm)).trans (by first | assumption | exact xu_s _ _ _ | exact (xu_n (by first | assumption | exact Ne.symm (by assumption) | exact xu_fresh (by assumption) (by assumption) | exact (xu_fresh (by assumption) (by assumption)).symm)).trans (by first | assumption | exact xu_s _ _ _ | exact (xu_n (by first | assumption | exact Ne.symm (by assumption) | exact xu_fresh (by assumption) (by assumption) | exact (xu_fresh (by assumption) (by assumption)).symm)).trans (by first | assumption | exact xu_s _ _ _)))) rfl ?_
        refine x_iload_n (M := mJ4_setLength) (pc := 67) dJ4_setLength_67 rfl ?_
        first | with_reducible refine x_icmp_leN (M := mJ4_setLength) (pc := 68) 76 dJ4_setLength_68 (by decide) (by omega) (by omega) (fun c68 => ?_) (fun c68 => ?_) | refine x_icmp_le (M := mJ4_setLength) (pc := 68) 76 dJ4_setLength_68 (by decide) (fun c68 => ?_) (fun c68 => ?_)
        · refine x_aload_n (M := mJ4_setLength) (pc := 76) dJ4_setLength_76 rfl ?_
          refine x_iload_n (M := mJ4_setLength) (pc := 77) dJ4_setLength_77 rfl ?_
          first | refine x_put3' (M := mJ4_setLength) (pc := 78) kcJ5 q357 dJ4_setLength_78 ?_ | refine x_put3 (M := mJ4_setLength) (pc := 78) kcJ5 q357 dJ4_setLength_78 (by first | assumption | exact xu_s _ _ _ | exact (xu_n (by first | assumption | exact Ne.symm (by assumption) | exact xu_fresh (by assumption) (by assumption) | exact (xu_fresh (by assumption) (by assumption)).symm)).trans (by first | assumption | exact xu_s _ _ _ | exact (xu_n (by first | assumption | exact Ne.symm (by assumption) | exact xu_fresh (by assumption) (by assumption) | exact (xu_fresh (by assumption) (by assumption)).symm)).trans (by first | assumption | exact xu_s _ _ _ | exact (xu_n (by first | assumption | exact Ne.symm (by assumption) | exact xu_fresh (by assumption) (by assumption) | exact (xu_fresh (by assumption) (by assumption)).symm)).trans (by first | assumption | exact xu_s _ _ _)))) ?_
          refine x_vret (M := mJ4_setLength) (pc := 81) dJ4_setLength_81 rfl (by first | exact Nat.le_of_ble_eq_true rfl | omega) (by first | exact Nat.le_of_ble_eq_true rfl | omega) ?_
          exact ⟨rfl, ⟨_, cap, f, by first | exact h0 | exact Or.inr rfl, xu_s _ _ _, (xu_n h4).trans hb, by omega, by omega, by omega, h4, fun k hk => absurd hk (Nat.not_lt_zero k), h6⟩, fun b e n1 hb => (xu_n n1).trans hb⟩
        · refine x_aload_n (M := mJ4_setLength) (pc := 71) dJ4_setLength_71 rfl ?_
          refine x_iconst (M := mJ4_setLength) (pc := 72) (v := nI 1) dJ4_setLength_72 (by decide) ?_
          first | refine x_put2' (M := mJ4_setLength) (pc := 73) kcJ5 q356 dJ4_setLength_73 ?_ | refine x_put2 (M := mJ4_setLength) (pc := 73) kcJ5 q356 dJ4_setLength_73 (by first | assumption | exact xu_s _ _ _ | exact (xu_n (by first | assumption | exact Ne.symm (by assumption) | exact xu_fresh (by assumption) (by assumption) | exact (xu_fresh (by assumption) (by assumption)).symm)).trans (by first | assumption | exact xu_s _ _ _ | exact (xu_n (by first | assumption | exact Ne.symm (by assumption) | exact xu_fresh (by assumption) (by assumption) | exact (xu_fresh (by assumption) (by assumption)).symm)).trans (by first | assumption | exact xu_s _ _ _ | exact (xu_n (by first | assumption | exact Ne.symm (by assumption) | exact xu_fresh (by assumption) (by assumption) | exact (xu_fresh (by assumption) (by assumption)).symm)).trans (by first | assumption | exact xu_s _ _ _)))) ?_
          refine x_aload_n (M := mJ4_setLength) (pc := 76) dJ4_setLength_76 rfl ?_
          refine x_iload_n (M := mJ4_setLength) (pc := 77) dJ4_setLength_77 rfl ?_
          first | refine x_put3' (M := mJ4_setLength) (pc := 78) kcJ5 q357 dJ4_setLength_78 ?_ | refine x_put3 (M := mJ4_setLength) (pc := 78) kcJ5 q357 dJ4_setLength_78 (by first | assumption | exact xu_s _ _ _ | exact (xu_n (by first | assumption | exact Ne.symm (by assumption) | exact xu_fresh (by assumption) (by assumption) | exact (xu_fresh (by assumption) (by assumption)).symm)).trans (by first | assumption | exact xu_s _ _ _ | exact (xu_n (by first | assumption | exact Ne.symm (by assumption) | exact xu_fresh (by assumption) (by assumption) | exact (xu_fresh (by assumption) (by assumption)).symm)).trans (by first | assumption | exact xu_s _ _ _ | exact (xu_n (by first | assumption | exact Ne.symm (by assumption) | exact xu_fresh (by assumption) (by assumption) | exact (xu_fresh (by assumption) (by assumption)).symm)).trans (by first | assumption | exact xu_s _ _ _)))) ?_
          refine x_vret (M := mJ4_setLength) (pc := 81) dJ4_setLength_81 rfl (by first | exact Nat.le_of_ble_eq_true rfl | omega) (by first | exact Nat.le_of_ble_eq_true rfl | omega) ?_
          exact ⟨rfl, ⟨_, cap, f, by first | exact h0 | exact Or.inr rfl, xu_s _ _ _, (xu_n h4).trans hb, by omega, by omega, by omega, h4, fun k hk => absurd hk (Nat.not_lt_zero k), h6⟩, fun b e n1 hb => (xu_n n1).trans hb⟩
      · omega
    · omega
  · exact absurd (by decide) r_1
theorem j_sbSetLen (h : xH) (a arr n d : Nat) (tx : Nat → Nat) (hd : 5 ≤ d) (hA : SB g h a arr n tx) : Ct g l mJ5_setLength d 1 1000 [.ref a, .int (nI 0)] h (fun o h' => o = .inl none ∧ SB g h' a arr 0 tx ∧ xle1 a h h') := by
  refine Ct.of [some (.ref a), some (.int (nI 0))] (by decide +kernel) rfl (Nat.le_of_ble_eq_true rfl) rfl rfl ?_
  refine x_aload_n (M := mJ5_setLength) (pc := 0) dJ5_setLength_0 rfl ?_
  refine x_iload_n (M := mJ5_setLength) (pc := 1) dJ5_setLength_1 rfl ?_
  refine x_GSU (M := mJ5_setLength) (pc := 2) (M' := mJ4_setLength) (As := [.int (nI 0)]) q1704 q3321 q366 q1705 kCJ4_setLength (by decide) dJ5_setLength_2 (j_asbSetLen h a arr n (d - 1) tx (by omega) hA) hA.is sbAt rfl rfl (by omega) (by omega) (by omega) (by intro q h' hh; simp at hh) (Nat.le_of_ble_eq_true rfl) (fun v_ h1 hq_ => ?_)
  obtain ⟨hv_, w⟩ := hq_; cases hv_
  refine x_vret (M := mJ5_setLength) (pc := 5) dJ5_setLength_5 rfl (by first | exact Nat.le_of_ble_eq_true rfl | omega) (by first | exact Nat.le_of_ble_eq_true rfl | omega) ?_
  exact ⟨rfl, w⟩
end JDKSB

/-! commands: carried out (3): sights and notes -/
section CARRY3
set_option maxRecDepth 100000
variable {g : xG} {l : Launch} {h h0 h' : xH}
theorem c_sgInit (h : xH) (a p n d : Nat) (w : Bool) (v0 v1 v2 : Value) (hd : 2 ≤ d) (ha : h a = some (.inr (10, [v0, v1, v2]))) : Ct g l mX10_init d 0 0 [.ref a, .int (nI p), .int (nI n), .int (bI w)] h (fun o h' => o = .inl none ∧ h' = xu h a (.inr (10, [.int (nI p), .int (nI n), .int (bI w)]))) := by
  have hw := bI_01 w
  refine Ct.of [some (.ref a), some (.int (nI p)), some (.int (nI n)), some (.int (bI w))] (by decide +kernel) rfl (Nat.le_of_ble_eq_true rfl) rfl rfl ?_
  refine x_aload_n (M := mX10_init) (pc := 0) dX10_init_0 rfl ?_
  refine x_I0 (M := mX10_init) (pc := 1) (M' := mJ8_init) q1326 kIJ8_init dX10_init_1 (j_recInit h a (d - 1) (by omega)) (fun v_ h hq_ => ?_)
  obtain ⟨hv_, rfl⟩ := hq_; cases hv_
  refine x_aload_n (M := mX10_init) (pc := 4) dX10_init_4 rfl ?_
  refine x_iload_n (M := mX10_init) (pc := 5) dX10_init_5 rfl ?_
  first | refine x_putF0' (M := mX10_init) (pc := 6) kcX10 q1327 dX10_init_6 ?_ | refine x_putF0 (M := mX10_init) (pc := 6) kcX10 q1327 dX10_init_6 (by first | assumption | exact xu_s _ _ _ | exact (xu_n (by first | assumption | exact Ne.symm (by assumption) | exact xu_fresh (by assumption) (by assumption) | exact (xu_fresh (by assumption) (by assumption)).symm)).trans (by first | assumption | exact xu_s _ _ _ | exact (xu_n (by first | assumption | exact Ne.symm (by assumption) | exact xu_fresh (by assumption) (by assumption) | exact (xu_fresh (by assumption) (by assumption)).symm)).trans (by first | assumption | exact xu_s _ _ _ | exact (xu_n (by first | assumption | exact Ne.symm (by assumption) | exact xu_fresh (by assumption) (by assumption) | exact (xu_fresh (by assumption) (by assumption)).symm)).trans (by first | assumption | exact xu_s _ _ _)))) ?_
  refine x_aload_n (M := mX10_init) (pc := 9) dX10_init_9 rfl ?_
  refine x_iload_n (M := mX10_init) (pc := 10) dX10_init_10 rfl ?_
  first | refine x_putF1' (M := mX10_init) (pc := 11) kcX10 q1328 dX10_init_11 ?_ | refine x_putF1 (M := mX10_init) (pc := 11) kcX10 q1328 dX10_init_11 (by first | assumption | exact xu_s _ _ _ | exact (xu_n (by first | assumption | exact Ne.symm (by assumption) | exact xu_fresh (by assumption) (by assumption) | exact (xu_fresh (by assumption) (by assumption)).symm)).trans (by first | assumption | exact xu_s _ _ _ | exact (xu_n (by first | assumption | exact Ne.symm (by assumption) | exact xu_fresh (by assumption) (by assumption) | exact (xu_fresh (by assumption) (by assumption)).symm)).trans (by first | assumption | exact xu_s _ _ _ | exact (xu_n (by first | assumption | exact Ne.symm (by assumption) | exact xu_fresh (by assumption) (by assumption) | exact (xu_fresh (by assumption) (by assumption)).symm)).trans (by first | assumption | exact xu_s _ _ _)))) ?_
  refine x_aload_n (M := mX10_init) (pc := 14) dX10_init_14 rfl ?_
  refine x_iload_n (M := mX10_init) (pc := 15) dX10_init_15 rfl ?_
  first | refine x_putF2' (M := mX10_init) (pc := 16) kcX10 q1329 dX10_init_16 ?_ | refine x_putF2 (M := mX10_init) (pc := 16) kcX10 q1329 dX10_init_16 (by first | assumption | exact xu_s _ _ _ | exact (xu_n (by first | assumption | exact Ne.symm (by assumption) | exact xu_fresh (by assumption) (by assumption) | exact (xu_fresh (by assumption) (by assumption)).symm)).trans (by first | assumption | exact xu_s _ _ _ | exact (xu_n (by first | assumption | exact Ne.symm (by assumption) | exact xu_fresh (by assumption) (by assumption) | exact (xu_fresh (by assumption) (by assumption)).symm)).trans (by first | assumption | exact xu_s _ _ _ | exact (xu_n (by first | assumption | exact Ne.symm (by assumption) | exact xu_fresh (by assumption) (by assumption) | exact (xu_fresh (by assumption) (by assumption)).symm)).trans (by first | assumption | exact xu_s _ _ _)))) ?_
  refine x_vret (M := mX10_init) (pc := 19) dX10_init_19 rfl (by first | exact Nat.le_of_ble_eq_true rfl | omega) (by first | exact Nat.le_of_ble_eq_true rfl | omega) ?_
  exact ⟨rfl, rfl⟩
theorem dec1 {c : Nat} (h : c = 1) : nI 1 = bI (decide (c = 1)) := by rw [decide_eq_true h]; rfl
theorem dec0 {c : Nat} (h : c ≠ 1) : nI 0 = bI (decide (c = 1)) := by rw [decide_eq_false h]; rfl
theorem lE.ob {a arr n : Nat} {xs : List Nat} {E : Nat → va_E} (hL : lE g h a arr n xs E) (hE : ∀ k, k < n → ∃ c fs, E k = .inr (c, fs) ∧ ((c = 10) ∨ (c = 7))) : ∀ y ∈ xs, xOb g h y := fun y hy => by
  obtain ⟨k, hk, rfl⟩ := List.getElem_of_mem hy
  have := hL.2.2 k (by have := hL.2.1; omega)
  rw [List.getD_eq_getElem?_getD, List.getElem?_eq_getElem hk] at this
  obtain ⟨c, fs, e, rfl | rfl⟩ := hE k (by have := hL.2.1; omega)
  · rw [e] at this; exact ⟨_, xIs.of kcX10 this, Or.inr q3360⟩
  · rw [e] at this; exact ⟨_, xIs.of kcX7 this, Or.inr q3357⟩
theorem cy_see (hh : xH) (cm sh d : Nat) (hd : 8 ≤ d) (O : Nat → Prop) (s : Row) (hW : WF s) (x y z v : Int32) (s' : Row) (hr : c_see s x y z = .inr (v, s')) (hS : SH g hh O sh s) (hc : hh cm = some (.inr (19, [.int x, .int y, .int z]))) : Ct g l mX20_carryOut d 2 40 [.ref cm, .ref sh] hh (fun o h' => o = .inl (some (.int v)) ∧ RS g O hh sh s' h') := by
  obtain ⟨P, xs, ys, hS, hO⟩ := hS
  have hb := hW.b
  have n8 := hW.n8
  unfold c_see at hr
  split at hr
  · cases hr
  · next q0 =>
    split at hr
    · cases hr
    · next q1 =>
      cases hr
      have q0 := eq_true_of_ne_false q0
      rw [hW.sz, Bool.and_eq_true, Bool.and_eq_true] at q0
      obtain ⟨a, rfl, -, ha⟩ := bIn_n (a := 0) (by omega) (by omega) q0.1.1
      obtain ⟨b, rfl, -, hb2⟩ := bIn_n (a := 0) (b := 31) (by omega) (by omega) q0.1.2
      obtain ⟨c, rfl, -, hc2⟩ := bIn_n (a := 0) (b := 1) (by omega) (by omega) q0.2
      have hsh := hS.1
      unfold shE at hsh
      refine Ct.of [some (.ref cm), some (.ref sh)] (by decide +kernel) rfl (Nat.le_of_ble_eq_true rfl) rfl rfl ?_
      refine x_aload_n (M := mX20_carryOut) (pc := 0) dX20_carryOut_0 rfl ?_
      refine x_getN (M := mX20_carryOut) (pc := 1) kcX2 11 rfl q259 dX20_carryOut_1 (by first | assumption | exact xu_s _ _ _ | exact (xu_n (by first | assumption | exact Ne.symm (by assumption) | exact xu_fresh (by assumption) (by assumption) | exact (xu_fresh (by assumption) (by assumption)).symm)).trans (by first | assumption | exact xu_s _ _ _ | exact (xu_n (by first | assumption | exact Ne.symm (by assumption) | exact xu_fresh (by assumption) (by assumption) | exact (xu_fresh (by assumption) (by assumption)).symm)).trans (by first | assumption | exact xu_s _ _ _ | exact (xu_n (by first | assumption | exact Ne.symm (by assumption) | exact xu_fresh (by assumption) (by assumption) | exact (xu_fresh (by assumption) (by assumption)).symm)).trans (by first | assumption | exact xu_s _ _ _)))) rfl ?_
      refine x_new (M := mX20_carryOut) (pc := 4) kcX10 q1321 dX20_carryOut_4 (by first | exact Nat.le_of_ble_eq_true rfl | omega) (by first | exact Nat.le_of_ble_eq_true rfl | omega) (fun q4_ hq4_ hb4_ => ?_)
      (try simp only [xu_noneI] at hq4_)
      repeat (obtain ⟨_, hq4_⟩ : _ ∧ _ := hq4_)
      refine x_dup (M := mX20_carryOut) (pc := 7) dX20_carryOut_7 ?_
      refine x_aload_n (M := mX20_carryOut) (pc := 8) dX20_carryOut_8 rfl ?_
      refine x_get (M := mX20_carryOut) (pc := 9) kcX20 0 rfl q1509 dX20_carryOut_9 (by first | assumption | exact xu_s _ _ _ | exact (xu_n (by first | assumption | exact Ne.symm (by assumption) | exact xu_fresh (by assumption) (by assumption) | exact (xu_fresh (by assumption) (by assumption)).symm)).trans (by first | assumption | exact xu_s _ _ _ | exact (xu_n (by first | assumption | exact Ne.symm (by assumption) | exact xu_fresh (by assumption) (by assumption) | exact (xu_fresh (by assumption) (by assumption)).symm)).trans (by first | assumption | exact xu_s _ _ _ | exact (xu_n (by first | assumption | exact Ne.symm (by assumption) | exact xu_fresh (by assumption) (by assumption) | exact (xu_fresh (by assumption) (by assumption)).symm)).trans (by first | assumption | exact xu_s _ _ _)))) rfl ?_
      refine x_aload_n (M := mX20_carryOut) (pc := 12) dX20_carryOut_12 rfl ?_
      refine x_get (M := mX20_carryOut) (pc := 13) kcX20 1 rfl q1510 dX20_carryOut_13 (by first | assumption | exact xu_s _ _ _ | exact (xu_n (by first | assumption | exact Ne.symm (by assumption) | exact xu_fresh (by assumption) (by assumption) | exact (xu_fresh (by assumption) (by assumption)).symm)).trans (by first | assumption | exact xu_s _ _ _ | exact (xu_n (by first | assumption | exact Ne.symm (by assumption) | exact xu_fresh (by assumption) (by assumption) | exact (xu_fresh (by assumption) (by assumption)).symm)).trans (by first | assumption | exact xu_s _ _ _ | exact (xu_n (by first | assumption | exact Ne.symm (by assumption) | exact xu_fresh (by assumption) (by assumption) | exact (xu_fresh (by assumption) (by assumption)).symm)).trans (by first | assumption | exact xu_s _ _ _)))) rfl ?_
      refine x_joinV 29 (bI (decide (c = 1))) (fun J => ?_) ?_
      · refine x_aload_n (M := mX20_carryOut) (pc := 16) dX20_carryOut_16 rfl ?_
        refine x_get (M := mX20_carryOut) (pc := 17) kcX20 2 rfl q1511 dX20_carryOut_17 (by first | assumption | exact xu_s _ _ _ | exact (xu_n (by first | assumption | exact Ne.symm (by assumption) | exact xu_fresh (by assumption) (by assumption) | exact (xu_fresh (by assumption) (by assumption)).symm)).trans (by first | assumption | exact xu_s _ _ _ | exact (xu_n (by first | assumption | exact Ne.symm (by assumption) | exact xu_fresh (by assumption) (by assumption) | exact (xu_fresh (by assumption) (by assumption)).symm)).trans (by first | assumption | exact xu_s _ _ _ | exact (xu_n (by first | assumption | exact Ne.symm (by assumption) | exact xu_fresh (by assumption) (by assumption) | exact (xu_fresh (by assumption) (by assumption)).symm)).trans (by first | assumption | exact xu_s _ _ _)))) rfl ?_
        refine x_iconst (M := mX20_carryOut) (pc := 20) (v := nI 1) dX20_carryOut_20 (by decide) ?_
        first | with_reducible refine x_icmp_neN (M := mX20_carryOut) (pc := 21) 28 dX20_carryOut_21 (by decide) (by omega) (by omega) (fun c21 => ?_) (fun c21 => ?_) | refine x_icmp_ne (M := mX20_carryOut) (pc := 21) 28 dX20_carryOut_21 (by decide) (fun c21 => ?_) (fun c21 => ?_)
        · refine x_iconst (M := mX20_carryOut) (pc := 28) (v := nI 0) dX20_carryOut_28 (by decide) ?_
          exact J _ (by first | exact dec0 c21 | exact dec1 c21)
        · refine x_iconst (M := mX20_carryOut) (pc := 24) (v := nI 1) dX20_carryOut_24 (by decide) ?_
          refine x_goto (M := mX20_carryOut) (pc := 25) 29 dX20_carryOut_25 (by decide) ?_
          exact J _ (by first | exact dec0 c21 | exact dec1 c21)
      refine x_IN3 (M := mX20_carryOut) (pc := 29) (M' := mX10_init) q1323 kIX10_init dX20_carryOut_29 (c_sgInit _ q4_ a b (d - 1) (decide (c = 1)) _ _ _ (by omega) (xu_s _ _ _)) (fun v_ h hq_ => ?_)
      obtain ⟨hv_, rfl⟩ := hq_; cases hv_; rw [xu_xu]
      rotate_left
      refine x_cst (M := mX20_carryOut) (pc := 32) (fun _ _ _ hx0 => ?_)
      have hS1 := hS.le (xle.fr (e := .inr (10, [.int (nI a), .int (nI b), .int (bI (decide (c = 1)))])) hq4_)
      have hL := hS1.2.2.2.2.2.1
      have hq : (xu hh q4_ (.inr (10, [.int (nI a), .int (nI b), .int (bI (decide (c = 1)))]))) q4_ = some (.inr (10, [.int (nI a), .int (nI b), .int (bI (decide (c = 1)))])) := xu_s _ _ _
      have hel := hL.ob (fun k hk => ⟨10, _, rfl, Or.inl rfl⟩)
      obtain ⟨A1, A2, A3⟩ := hL
      refine x_V1 (M := mX20_carryOut) (pc := 32) (M' := mJ2_add) q1337 kVJ2_add dX20_carryOut_32 (j_add _ (P 3) (P 6) (d - 1) q4_ xs (by omega) A1 ⟨_, xIs.of kcX10 hq, Or.inr q3360⟩ hel (by omega)) (A1.is) (fun v_ h2 hq_ => ?_)
      obtain ⟨hv_, ar, w1, w2, w3⟩ := hq_; cases hv_
      have K : ∀ p c fs, (c = 10) → (xu hh q4_ (.inr (10, [.int (nI a), .int (nI b), .int (bI (decide (c = 1)))]))) p = some (.inr (c, fs)) → True := fun _ _ _ _ _ => trivial
      have e12 : zN (upd (upd (upd (upd s (13 + 3 * zN s 12) (nI a)) (13 + 3 * zN s 12 + 1) (nI b)) (13 + 3 * zN s 12 + 2) (nI c)) 12 (nI (zN s 12 + 1))) 12 = zN s 12 + 1 := zN_us (by omega)
      have q2 := hS1.si (s' := upd (upd (upd (upd s (13 + 3 * zN s 12) (nI a)) (13 + 3 * zN s 12 + 1) (nI b)) (13 + 3 * zN s 12 + 2) (nI c)) 12 (nI (zN s 12 + 1))) (xs' := xs ++ [q4_]) hW.nb hx0 w2 ⟨w1, by rw [e12, List.length_append, A2]; rfl, fun k hk => by
        rw [e12] at hk
        by_cases t : k = zN s 12
        · subst t
          rw [show (xs ++ [q4_]).getD (zN s 12) 0 = q4_ by rw [← A2]; exact getD_last xs q4_]
          have z1 := A1.ne hx0 hq (by intro _ z; cases z) (by intro _ _ _ z; cases z)
          rw [w2 _ _ z1.1 z1.2 hq]
          unfold sgE
          rw [show zN _ (13 + 3 * zN s 12) = a by rw [zN_u (by omega), zN_u (by omega), zN_u (by omega)]; exact zN_us (by omega), show zN _ (14 + 3 * zN s 12) = b by rw [zN_u (by omega), zN_u (by omega), show 14 + 3 * zN s 12 = 13 + 3 * zN s 12 + 1 by omega]; exact zN_us (by omega), show zN _ (15 + 3 * zN s 12) = c by rw [zN_u (by omega), show 15 + 3 * zN s 12 = 13 + 3 * zN s 12 + 2 by omega]; exact zN_us (by omega)]
        · have hk' : k < zN s 12 := by omega
          rw [getD_app _ _ _ (by omega)]
          have z1 := A1.ne hx0 (A3 k hk') (by intro _ z; cases z) (by intro _ _ _ z; cases z)
          rw [w2 _ _ z1.1 z1.2 (A3 k hk')]
          unfold sgE
          rw [zN_u (show 13 + 3 * k ≠ 12 by omega), zN_u (show 13 + 3 * k ≠ 13 + 3 * zN s 12 + 2 by omega), zN_u (show 13 + 3 * k ≠ 13 + 3 * zN s 12 + 1 by omega), zN_u (show 13 + 3 * k ≠ 13 + 3 * zN s 12 by omega), zN_u (show 14 + 3 * k ≠ 12 by omega), zN_u (show 14 + 3 * k ≠ 13 + 3 * zN s 12 + 2 by omega), zN_u (show 14 + 3 * k ≠ 13 + 3 * zN s 12 + 1 by omega), zN_u (show 14 + 3 * k ≠ 13 + 3 * zN s 12 by omega), zN_u (show 15 + 3 * k ≠ 12 by omega), zN_u (show 15 + 3 * k ≠ 13 + 3 * zN s 12 + 2 by omega), zN_u (show 15 + 3 * k ≠ 13 + 3 * zN s 12 + 1 by omega), zN_u (show 15 + 3 * k ≠ 13 + 3 * zN s 12 by omega)]⟩ w3 (fun k hk => by rw [upd_n _ _ (by omega), upd_n _ _ (by omega), upd_n _ _ (by omega), upd_n _ _ (by omega)])
      have hsh2 := q2.1
      rw [shE_P (P := P) (fun i hi => va_up_n _ _ (by omega))] at hsh2
      unfold shE at hsh2
      refine x_pop (M := mX20_carryOut) (pc := 35) dX20_carryOut_35 ?_
      refine x_aload_n (M := mX20_carryOut) (pc := 36) dX20_carryOut_36 rfl ?_
      refine x_getN (M := mX20_carryOut) (pc := 37) kcX2 11 rfl q259 dX20_carryOut_37 (by first | assumption | exact xu_s _ _ _ | exact (xu_n (by first | assumption | exact Ne.symm (by assumption) | exact xu_fresh (by assumption) (by assumption) | exact (xu_fresh (by assumption) (by assumption)).symm)).trans (by first | assumption | exact xu_s _ _ _ | exact (xu_n (by first | assumption | exact Ne.symm (by assumption) | exact xu_fresh (by assumption) (by assumption) | exact (xu_fresh (by assumption) (by assumption)).symm)).trans (by first | assumption | exact xu_s _ _ _ | exact (xu_n (by first | assumption | exact Ne.symm (by assumption) | exact xu_fresh (by assumption) (by assumption) | exact (xu_fresh (by assumption) (by assumption)).symm)).trans (by first | assumption | exact xu_s _ _ _)))) rfl ?_
      refine x_V0 (M := mX20_carryOut) (pc := 40) (M' := mJ2_size) q603 kVJ2_size dX20_carryOut_40 (j_size h2 _ _ (d - 1) _ w1) (w1.is) (fun v_ h hq_ => ?_)
      obtain ⟨hv_, rfl⟩ := hq_; cases hv_
      refine x_iret (M := mX20_carryOut) (pc := 43) dX20_carryOut_43 rfl (by first | exact Nat.le_of_ble_eq_true rfl | omega) (by first | exact Nat.le_of_ble_eq_true rfl | omega) ?_
      exact ⟨by rw [List.length_append, A2]; rfl, ⟨_, _, _, q2, hO.up6 (w3.imp id (fun z => (xu_none z).2))⟩, (xlO.le (xle.fr hq4_)).tr (xlO.al A1 hx0 (hO.2.1 3 (by omega)) hO.2.2.1 w2)⟩
theorem cy_addNote (hh : xH) (cm sh d : Nat) (hd : 8 ≤ d) (O : Nat → Prop) (s : Row) (hW : WF s) (x y z w v : Int32) (s' : Row) (hr : c_addNote s x y z w = .inr (v, s')) (hS : SH g hh O sh s) (hc : hh cm = some (.inr (20, [.int x, .int y, .int z, .int w]))) : Ct g l mX22_carryOut d 2 50 [.ref cm, .ref sh] hh (fun o h' => o = .inl (some (.int v)) ∧ RS g O hh sh s' h') := by
  obtain ⟨P, xs, ys, hS, hO⟩ := hS
  have n12 := hW.n12
  unfold c_addNote at hr
  split at hr
  · cases hr
  · next q0 =>
    split at hr
    · cases hr
    · next q1 =>
      cases hr
      have q0 := eq_true_of_ne_false q0
      rw [Bool.and_eq_true, Bool.and_eq_true, Bool.and_eq_true] at q0
      obtain ⟨a, rfl, -, ha⟩ := bIn_n (a := 0) (b := 99) (by omega) (by omega) q0.1.1.1
      obtain ⟨b, rfl, -, hb2⟩ := bIn_n (a := 0) (b := 9) (by omega) (by omega) q0.1.1.2
      obtain ⟨e, rfl, -, he2⟩ := bIn_n (a := 1) (b := 20) (by omega) (by omega) q0.1.2
      obtain ⟨c, rfl, -, hc2⟩ := bIn_n (a := 0) (b := 1) (by omega) (by omega) q0.2
      have hsh := hS.1
      unfold shE at hsh
      refine Ct.of [some (.ref cm), some (.ref sh)] (by decide +kernel) rfl (Nat.le_of_ble_eq_true rfl) rfl rfl ?_
      refine x_aload_n (M := mX22_carryOut) (pc := 0) dX22_carryOut_0 rfl ?_
      refine x_getN (M := mX22_carryOut) (pc := 1) kcX2 12 rfl q267 dX22_carryOut_1 (by first | assumption | exact xu_s _ _ _ | exact (xu_n (by first | assumption | exact Ne.symm (by assumption) | exact xu_fresh (by assumption) (by assumption) | exact (xu_fresh (by assumption) (by assumption)).symm)).trans (by first | assumption | exact xu_s _ _ _ | exact (xu_n (by first | assumption | exact Ne.symm (by assumption) | exact xu_fresh (by assumption) (by assumption) | exact (xu_fresh (by assumption) (by assumption)).symm)).trans (by first | assumption | exact xu_s _ _ _ | exact (xu_n (by first | assumption | exact Ne.symm (by assumption) | exact xu_fresh (by assumption) (by assumption) | exact (xu_fresh (by assumption) (by assumption)).symm)).trans (by first | assumption | exact xu_s _ _ _)))) rfl ?_
      refine x_new (M := mX22_carryOut) (pc := 4) kcX7 q1086 dX22_carryOut_4 (by first | exact Nat.le_of_ble_eq_true rfl | omega) (by first | exact Nat.le_of_ble_eq_true rfl | omega) (fun q4_ hq4_ hb4_ => ?_)
      (try simp only [xu_noneI] at hq4_)
      repeat (obtain ⟨_, hq4_⟩ : _ ∧ _ := hq4_)
      refine x_dup (M := mX22_carryOut) (pc := 7) dX22_carryOut_7 ?_
      refine x_aload_n (M := mX22_carryOut) (pc := 8) dX22_carryOut_8 rfl ?_
      refine x_get (M := mX22_carryOut) (pc := 9) kcX22 0 rfl q1540 dX22_carryOut_9 (by first | assumption | exact xu_s _ _ _ | exact (xu_n (by first | assumption | exact Ne.symm (by assumption) | exact xu_fresh (by assumption) (by assumption) | exact (xu_fresh (by assumption) (by assumption)).symm)).trans (by first | assumption | exact xu_s _ _ _ | exact (xu_n (by first | assumption | exact Ne.symm (by assumption) | exact xu_fresh (by assumption) (by assumption) | exact (xu_fresh (by assumption) (by assumption)).symm)).trans (by first | assumption | exact xu_s _ _ _ | exact (xu_n (by first | assumption | exact Ne.symm (by assumption) | exact xu_fresh (by assumption) (by assumption) | exact (xu_fresh (by assumption) (by assumption)).symm)).trans (by first | assumption | exact xu_s _ _ _)))) rfl ?_
      refine x_aload_n (M := mX22_carryOut) (pc := 12) dX22_carryOut_12 rfl ?_
      refine x_get (M := mX22_carryOut) (pc := 13) kcX22 1 rfl q1541 dX22_carryOut_13 (by first | assumption | exact xu_s _ _ _ | exact (xu_n (by first | assumption | exact Ne.symm (by assumption) | exact xu_fresh (by assumption) (by assumption) | exact (xu_fresh (by assumption) (by assumption)).symm)).trans (by first | assumption | exact xu_s _ _ _ | exact (xu_n (by first | assumption | exact Ne.symm (by assumption) | exact xu_fresh (by assumption) (by assumption) | exact (xu_fresh (by assumption) (by assumption)).symm)).trans (by first | assumption | exact xu_s _ _ _ | exact (xu_n (by first | assumption | exact Ne.symm (by assumption) | exact xu_fresh (by assumption) (by assumption) | exact (xu_fresh (by assumption) (by assumption)).symm)).trans (by first | assumption | exact xu_s _ _ _)))) rfl ?_
      refine x_aload_n (M := mX22_carryOut) (pc := 16) dX22_carryOut_16 rfl ?_
      refine x_get (M := mX22_carryOut) (pc := 17) kcX22 2 rfl q1542 dX22_carryOut_17 (by first | assumption | exact xu_s _ _ _ | exact (xu_n (by first | assumption | exact Ne.symm (by assumption) | exact xu_fresh (by assumption) (by assumption) | exact (xu_fresh (by assumption) (by assumption)).symm)).trans (by first | assumption | exact xu_s _ _ _ | exact (xu_n (by first | assumption | exact Ne.symm (by assumption) | exact xu_fresh (by assumption) (by assumption) | exact (xu_fresh (by assumption) (by assumption)).symm)).trans (by first | assumption | exact xu_s _ _ _ | exact (xu_n (by first | assumption | exact Ne.symm (by assumption) | exact xu_fresh (by assumption) (by assumption) | exact (xu_fresh (by assumption) (by assumption)).symm)).trans (by first | assumption | exact xu_s _ _ _)))) rfl ?_
      refine x_joinV 33 (bI (decide (c = 1))) (fun J => ?_) ?_
      · refine x_aload_n (M := mX22_carryOut) (pc := 20) dX22_carryOut_20 rfl ?_
        refine x_get (M := mX22_carryOut) (pc := 21) kcX22 3 rfl q1543 dX22_carryOut_21 (by first | assumption | exact xu_s _ _ _ | exact (xu_n (by first | assumption | exact Ne.symm (by assumption) | exact xu_fresh (by assumption) (by assumption) | exact (xu_fresh (by assumption) (by assumption)).symm)).trans (by first | assumption | exact xu_s _ _ _ | exact (xu_n (by first | assumption | exact Ne.symm (by assumption) | exact xu_fresh (by assumption) (by assumption) | exact (xu_fresh (by assumption) (by assumption)).symm)).trans (by first | assumption | exact xu_s _ _ _ | exact (xu_n (by first | assumption | exact Ne.symm (by assumption) | exact xu_fresh (by assumption) (by assumption) | exact (xu_fresh (by assumption) (by assumption)).symm)).trans (by first | assumption | exact xu_s _ _ _)))) rfl ?_
        refine x_iconst (M := mX22_carryOut) (pc := 24) (v := nI 1) dX22_carryOut_24 (by decide) ?_
        first | with_reducible refine x_icmp_neN (M := mX22_carryOut) (pc := 25) 32 dX22_carryOut_25 (by decide) (by omega) (by omega) (fun c25 => ?_) (fun c25 => ?_) | refine x_icmp_ne (M := mX22_carryOut) (pc := 25) 32 dX22_carryOut_25 (by decide) (fun c25 => ?_) (fun c25 => ?_)
        · refine x_iconst (M := mX22_carryOut) (pc := 32) (v := nI 0) dX22_carryOut_32 (by decide) ?_
          exact J _ (by first | exact dec0 c25 | exact dec1 c25)
        · refine x_iconst (M := mX22_carryOut) (pc := 28) (v := nI 1) dX22_carryOut_28 (by decide) ?_
          refine x_goto (M := mX22_carryOut) (pc := 29) 33 dX22_carryOut_29 (by decide) ?_
          exact J _ (by first | exact dec0 c25 | exact dec1 c25)
      refine x_IN4 (M := mX22_carryOut) (pc := 33) (M' := mX7_init) q1088 kIX7_init dX22_carryOut_33 (c_nteInit _ q4_ a b e (d - 1) (decide (c = 1)) _ _ _ _ (by omega) (xu_s _ _ _)) (fun v_ h hq_ => ?_)
      obtain ⟨hv_, rfl⟩ := hq_; cases hv_; rw [xu_xu]
      rotate_left
      refine x_cst (M := mX22_carryOut) (pc := 36) (fun _ _ _ hx0 => ?_)
      have hS1 := hS.le (xle.fr (e := .inr (7, [.int (nI a), .int (nI b), .int (nI e), .int (bI (decide (c = 1)))])) hq4_)
      have hL := hS1.2.2.2.2.2.2.1
      have hq : (xu hh q4_ (.inr (7, [.int (nI a), .int (nI b), .int (nI e), .int (bI (decide (c = 1)))]))) q4_ = some (.inr (7, [.int (nI a), .int (nI b), .int (nI e), .int (bI (decide (c = 1)))])) := xu_s _ _ _
      have hel := hL.ob (fun k hk => ⟨7, _, rfl, Or.inr rfl⟩)
      obtain ⟨A1, A2, A3⟩ := hL
      refine x_V1 (M := mX22_carryOut) (pc := 36) (M' := mJ2_add) q1105 kVJ2_add dX22_carryOut_36 (j_add _ (P 4) (P 7) (d - 1) q4_ ys (by omega) A1 ⟨_, xIs.of kcX7 hq, Or.inr q3357⟩ hel (by omega)) (A1.is) (fun v_ h2 hq_ => ?_)
      obtain ⟨hv_, ar, w1, w2, w3⟩ := hq_; cases hv_
      have e37 : zN (upd (upd (upd (upd (upd s (38 + 4 * zN s 37) (nI a)) (38 + 4 * zN s 37 + 1) (nI b)) (38 + 4 * zN s 37 + 2) (nI e)) (38 + 4 * zN s 37 + 3) (nI c)) 37 (nI (zN s 37 + 1))) 37 = zN s 37 + 1 := zN_us (by omega)
      have q2 := hS1.no (s' := upd (upd (upd (upd (upd s (38 + 4 * zN s 37) (nI a)) (38 + 4 * zN s 37 + 1) (nI b)) (38 + 4 * zN s 37 + 2) (nI e)) (38 + 4 * zN s 37 + 3) (nI c)) 37 (nI (zN s 37 + 1))) (ys' := ys ++ [q4_]) hW.nb hx0 w2 ⟨w1, by rw [e37, List.length_append, A2]; rfl, fun k hk => by
        rw [e37] at hk
        by_cases t : k = zN s 37
        · subst t
          rw [show (ys ++ [q4_]).getD (zN s 37) 0 = q4_ by rw [← A2]; exact getD_last ys q4_]
          have z1 := A1.ne hx0 hq (by intro _ z; cases z) (by intro _ _ _ z; cases z)
          rw [w2 _ _ z1.1 z1.2 hq]
          unfold ntE
          rw [show zN _ (38 + 4 * zN s 37) = a by rw [zN_u (by omega), zN_u (by omega), zN_u (by omega), zN_u (by omega)]; exact zN_us (by omega), show zN _ (39 + 4 * zN s 37) = b by rw [zN_u (by omega), zN_u (by omega), zN_u (by omega), show 39 + 4 * zN s 37 = 38 + 4 * zN s 37 + 1 by omega]; exact zN_us (by omega), show zN _ (40 + 4 * zN s 37) = e by rw [zN_u (by omega), zN_u (by omega), show 40 + 4 * zN s 37 = 38 + 4 * zN s 37 + 2 by omega]; exact zN_us (by omega), show zN _ (41 + 4 * zN s 37) = c by rw [zN_u (by omega), show 41 + 4 * zN s 37 = 38 + 4 * zN s 37 + 3 by omega]; exact zN_us (by omega)]
        · have hk' : k < zN s 37 := by omega
          rw [getD_app _ _ _ (by omega)]
          have z1 := A1.ne hx0 (A3 k hk') (by intro _ z; cases z) (by intro _ _ _ z; cases z)
          rw [w2 _ _ z1.1 z1.2 (A3 k hk')]
          have U : ∀ j, 38 ≤ j → j < 38 + 4 * zN s 37 → zN (upd (upd (upd (upd (upd s (38 + 4 * zN s 37) (nI a)) (38 + 4 * zN s 37 + 1) (nI b)) (38 + 4 * zN s 37 + 2) (nI e)) (38 + 4 * zN s 37 + 3) (nI c)) 37 (nI (zN s 37 + 1))) j = zN s j := fun j h1 h2 => by rw [zN_u (by omega), zN_u (by omega), zN_u (by omega), zN_u (by omega), zN_u (by omega)]
          unfold ntE
          rw [U (38 + 4 * k) (by omega) (by omega), U (39 + 4 * k) (by omega) (by omega), U (40 + 4 * k) (by omega) (by omega), U (41 + 4 * k) (by omega) (by omega)]⟩ w3 (fun k hk => by rw [upd_n _ _ (by omega), upd_n _ _ (by omega), upd_n _ _ (by omega), upd_n _ _ (by omega), upd_n _ _ (by omega)])
      have hsh2 := q2.1
      rw [shE_P (P := P) (fun i hi => va_up_n _ _ (by omega))] at hsh2
      unfold shE at hsh2
      have hlen : (ys ++ [q4_]).length = zN s 37 + 1 := by rw [List.length_append, A2]; rfl
      refine x_pop (M := mX22_carryOut) (pc := 39) dX22_carryOut_39 ?_
      refine x_aload_n (M := mX22_carryOut) (pc := 40) dX22_carryOut_40 rfl ?_
      refine x_getN (M := mX22_carryOut) (pc := 41) kcX2 12 rfl q267 dX22_carryOut_41 (by first | assumption | exact xu_s _ _ _ | exact (xu_n (by first | assumption | exact Ne.symm (by assumption) | exact xu_fresh (by assumption) (by assumption) | exact (xu_fresh (by assumption) (by assumption)).symm)).trans (by first | assumption | exact xu_s _ _ _ | exact (xu_n (by first | assumption | exact Ne.symm (by assumption) | exact xu_fresh (by assumption) (by assumption) | exact (xu_fresh (by assumption) (by assumption)).symm)).trans (by first | assumption | exact xu_s _ _ _ | exact (xu_n (by first | assumption | exact Ne.symm (by assumption) | exact xu_fresh (by assumption) (by assumption) | exact (xu_fresh (by assumption) (by assumption)).symm)).trans (by first | assumption | exact xu_s _ _ _)))) rfl ?_
      refine x_V0 (M := mX22_carryOut) (pc := 44) (M' := mJ2_size) q419 kVJ2_size dX22_carryOut_44 (j_size h2 _ _ (d - 1) _ w1) (w1.is) (fun v_ h hq_ => ?_)
      obtain ⟨hv_, rfl⟩ := hq_; cases hv_
      refine x_iconst (M := mX22_carryOut) (pc := 47) (v := nI 1) dX22_carryOut_47 (by decide) ?_
      first | with_reducible refine x_isubN (M := mX22_carryOut) (pc := 48) dX22_carryOut_48 (by omega) ?_ | refine x_isub (M := mX22_carryOut) (pc := 48) dX22_carryOut_48 ?_
      refine x_iret (M := mX22_carryOut) (pc := 49) dX22_carryOut_49 rfl (by first | exact Nat.le_of_ble_eq_true rfl | omega) (by first | exact Nat.le_of_ble_eq_true rfl | omega) ?_
      exact ⟨by rw [hlen]; rfl, ⟨_, _, _, q2, hO.up7 (w3.imp id (fun z => (xu_none z).2))⟩, (xlO.le (xle.fr hq4_)).tr (xlO.al A1 hx0 (hO.2.1 4 (by omega)) hO.2.2.2 w2)⟩
theorem j_removeR (h : xH) (a arr i d : Nat) (xs : List Nat) (hd : 2 ≤ d) (hA : AL g h a arr xs) (hel : ∀ y ∈ xs, xOb g h y) (hi : i < xs.length) : Ct g l mJ2_remove d 0 0 [.ref a, .int (nI i)] h (fun o h' => o = .inl (some (.ref (xs.getD i 0))) ∧ AL g h' a arr (xs.eraseIdx i) ∧ xle2 a arr h h') := by
  obtain ⟨mcn, cap, f, hA⟩ := hA
  obtain ⟨ha, hO, h1, h2, h3, hf, h4, h5⟩ := hA
  have hb : h arr = some (.inl (xdA g 3, cap, .inr (.inr (.inr (.inr f))))) := hO.resolve_right (fun q => by omega)
  have hv : va_rf (f i) = .ref (xs.getD i 0) := by rw [h3 i hi]; rfl
  refine Ct.of [some (.ref a), some (.int (nI i)), none, none] (by decide +kernel) rfl (Nat.le_of_ble_eq_true rfl) rfl rfl ?_
  refine x_iload_n (M := mJ2_remove) (pc := 0) dJ2_remove_0 rfl ?_
  refine x_aload_n (M := mJ2_remove) (pc := 1) dJ2_remove_1 rfl ?_
  refine x_get (M := mJ2_remove) (pc := 2) kcJ2 2 rfl q192 dJ2_remove_2 (by first | assumption | exact xu_s _ _ _ | exact (xu_n (by first | assumption | exact Ne.symm (by assumption) | exact xu_fresh (by assumption) (by assumption) | exact (xu_fresh (by assumption) (by assumption)).symm)).trans (by first | assumption | exact xu_s _ _ _ | exact (xu_n (by first | assumption | exact Ne.symm (by assumption) | exact xu_fresh (by assumption) (by assumption) | exact (xu_fresh (by assumption) (by assumption)).symm)).trans (by first | assumption | exact xu_s _ _ _ | exact (xu_n (by first | assumption | exact Ne.symm (by assumption) | exact xu_fresh (by assumption) (by assumption) | exact (xu_fresh (by assumption) (by assumption)).symm)).trans (by first | assumption | exact xu_s _ _ _)))) rfl ?_
  refine x_S2 (M := mJ2_remove) (pc := 5) (M' := mJ23_checkIndex) q1167 kSJ23_checkIndex dJ2_remove_5 (j_chk h i xs.length (d - 1) (by omega) hi (by omega)) (fun v_ h hq_ => ?_)
  obtain ⟨hv_, rfl⟩ := hq_; cases hv_
  refine x_pop (M := mJ2_remove) (pc := 8) dJ2_remove_8 ?_
  refine x_aload_n (M := mJ2_remove) (pc := 9) dJ2_remove_9 rfl ?_
  refine x_get (M := mJ2_remove) (pc := 10) kcJ2 1 rfl q189 dJ2_remove_10 (by first | assumption | exact xu_s _ _ _ | exact (xu_n (by first | assumption | exact Ne.symm (by assumption) | exact xu_fresh (by assumption) (by assumption) | exact (xu_fresh (by assumption) (by assumption)).symm)).trans (by first | assumption | exact xu_s _ _ _ | exact (xu_n (by first | assumption | exact Ne.symm (by assumption) | exact xu_fresh (by assumption) (by assumption) | exact (xu_fresh (by assumption) (by assumption)).symm)).trans (by first | assumption | exact xu_s _ _ _ | exact (xu_n (by first | assumption | exact Ne.symm (by assumption) | exact xu_fresh (by assumption) (by assumption) | exact (xu_fresh (by assumption) (by assumption)).symm)).trans (by first | assumption | exact xu_s _ _ _)))) rfl ?_
  refine x_astore2 (M := mJ2_remove) (pc := 13) dJ2_remove_13 ?_
  refine x_aload_n (M := mJ2_remove) (pc := 14) dJ2_remove_14 rfl ?_
  refine x_iload_n (M := mJ2_remove) (pc := 15) dJ2_remove_15 rfl ?_
  refine x_aaldN (M := mJ2_remove) (pc := 16) _ dJ2_remove_16 (by first | assumption | exact xu_s _ _ _ | exact (xu_n (by first | assumption | exact Ne.symm (by assumption) | exact xu_fresh (by assumption) (by assumption) | exact (xu_fresh (by assumption) (by assumption)).symm)).trans (by first | assumption | exact xu_s _ _ _ | exact (xu_n (by first | assumption | exact Ne.symm (by assumption) | exact xu_fresh (by assumption) (by assumption) | exact (xu_fresh (by assumption) (by assumption)).symm)).trans (by first | assumption | exact xu_s _ _ _ | exact (xu_n (by first | assumption | exact Ne.symm (by assumption) | exact xu_fresh (by assumption) (by assumption) | exact (xu_fresh (by assumption) (by assumption)).symm)).trans (by first | assumption | exact xu_s _ _ _)))) (by first | rfl | assumption) (by first | assumption | omega) (by first | decide | omega) (hv) ?_
  refine x_astore3 (M := mJ2_remove) (pc := 17) dJ2_remove_17 ?_
  refine x_aload_n (M := mJ2_remove) (pc := 18) dJ2_remove_18 rfl ?_
  refine x_aload_n (M := mJ2_remove) (pc := 19) dJ2_remove_19 rfl ?_
  refine x_iload_n (M := mJ2_remove) (pc := 20) dJ2_remove_20 rfl ?_
  refine x_V2 (M := mJ2_remove) (pc := 21) (M' := mJ2_fastRemove) q1312 kVJ2_fastRemove dJ2_remove_21 (j_fastRemove h a arr cap i (d - 1) mcn f xs (by omega) ⟨ha, hO, h1, h2, h3, hf, h4, h5⟩ hel hi) (xIs.of kcJ2 ha) (fun v_ h hq_ => ?_)
  obtain ⟨hv_, w1, w2⟩ := hq_; cases hv_
  refine x_aload_n (M := mJ2_remove) (pc := 24) dJ2_remove_24 rfl ?_
  refine x_aret (M := mJ2_remove) (pc := 25) dJ2_remove_25 rfl (by first | exact Or.inl ⟨_, rfl⟩ | exact Or.inr ⟨_, rfl⟩) (by first | exact Nat.le_of_ble_eq_true rfl | omega) (by first | exact Nat.le_of_ble_eq_true rfl | omega) ?_
  exact ⟨rfl, w1, w2⟩
theorem cy_remNote (hh : xH) (cm sh d : Nat) (hd : 4 ≤ d) (O : Nat → Prop) (s : Row) (hW : WF s) (x v : Int32) (s' : Row) (hr : c_removeNote s x = .inr (v, s')) (hS : SH g hh O sh s) (hc : hh cm = some (.inr (21, [.int x]))) : Ct g l mX23_carryOut d 0 0 [.ref cm, .ref sh] hh (fun o h' => o = .inl (some (.int v)) ∧ RS g O hh sh s' h') := by
  obtain ⟨P, xs, ys, hS, hO⟩ := hS
  have n12 := hW.n12
  unfold c_removeNote at hr
  split at hr
  · cases hr
  · next q0 =>
    have q0 := eq_true_of_ne_false q0
    have hpos : 1 ≤ zN s 37 := by
      rcases Nat.eq_zero_or_pos (zN s 37) with e | e
      · exfalso
        rw [hW.p37.1.1, e] at q0
        have q1 := of_decide_eq_true q0
        have : (0 : Int32) ≤ nI 0 - 1 := Int32.le_trans q1.1 q1.2
        exact absurd this (by decide)
      · exact e
    rw [hW.p37.1.1, show (1 : Int32) = nI 1 from rfl, pk_sub hpos] at q0
    obtain ⟨i, rfl, -, hi⟩ := bIn_n (a := 0) (by omega) (by omega) q0
    rw [show (nI i).toNatClampNeg = i from nI_clamp (by omega)] at hr
    cases hr
    have hsh := hS.1
    unfold shE at hsh
    have hL := hS.2.2.2.2.2.2.1
    have hel := hL.ob (fun k hk => ⟨7, _, rfl, Or.inr rfl⟩)
    obtain ⟨A1, A2, A3⟩ := hL
    refine Ct.of [some (.ref cm), some (.ref sh)] (by decide +kernel) rfl (Nat.le_of_ble_eq_true rfl) rfl rfl ?_
    refine x_cst (M := mX23_carryOut) (pc := 0) (fun _ _ _ hx0 => ?_)
    refine x_aload_n (M := mX23_carryOut) (pc := 0) dX23_carryOut_0 rfl ?_
    refine x_getN (M := mX23_carryOut) (pc := 1) kcX2 12 rfl q266 dX23_carryOut_1 (by first | assumption | exact xu_s _ _ _ | exact (xu_n (by first | assumption | exact Ne.symm (by assumption) | exact xu_fresh (by assumption) (by assumption) | exact (xu_fresh (by assumption) (by assumption)).symm)).trans (by first | assumption | exact xu_s _ _ _ | exact (xu_n (by first | assumption | exact Ne.symm (by assumption) | exact xu_fresh (by assumption) (by assumption) | exact (xu_fresh (by assumption) (by assumption)).symm)).trans (by first | assumption | exact xu_s _ _ _ | exact (xu_n (by first | assumption | exact Ne.symm (by assumption) | exact xu_fresh (by assumption) (by assumption) | exact (xu_fresh (by assumption) (by assumption)).symm)).trans (by first | assumption | exact xu_s _ _ _)))) rfl ?_
    refine x_aload_n (M := mX23_carryOut) (pc := 4) dX23_carryOut_4 rfl ?_
    refine x_get (M := mX23_carryOut) (pc := 5) kcX23 0 rfl q1563 dX23_carryOut_5 (by first | assumption | exact xu_s _ _ _ | exact (xu_n (by first | assumption | exact Ne.symm (by assumption) | exact xu_fresh (by assumption) (by assumption) | exact (xu_fresh (by assumption) (by assumption)).symm)).trans (by first | assumption | exact xu_s _ _ _ | exact (xu_n (by first | assumption | exact Ne.symm (by assumption) | exact xu_fresh (by assumption) (by assumption) | exact (xu_fresh (by assumption) (by assumption)).symm)).trans (by first | assumption | exact xu_s _ _ _ | exact (xu_n (by first | assumption | exact Ne.symm (by assumption) | exact xu_fresh (by assumption) (by assumption) | exact (xu_fresh (by assumption) (by assumption)).symm)).trans (by first | assumption | exact xu_s _ _ _)))) rfl ?_
    refine x_V1 (M := mX23_carryOut) (pc := 8) (M' := mJ2_remove) q1308 kVJ2_remove dX23_carryOut_8 (j_removeR hh (P 4) (P 7) i (d - 1) ys (by omega) A1 hel (by omega)) (A1.is) (fun v_ h2 hq_ => ?_)
    obtain ⟨hv_, w1, w2⟩ := hq_; cases hv_
    have e37 : zN (fun k => if 38 + 4 * i ≤ k ∧ k < 38 + 4 * (zN s 37 - 1) then s (k + 4) else if k = 37 then nI (zN s 37 - 1) else s k) 37 = zN s 37 - 1 := zN_nI (by omega) (by rw [if_neg (by omega), if_pos rfl])
    have hlen : (ys.eraseIdx i).length = zN s 37 - 1 := by rw [List.length_eraseIdx, if_pos (by omega), A2]
    have q2 := hS.no (s' := fun k => if 38 + 4 * i ≤ k ∧ k < 38 + 4 * (zN s 37 - 1) then s (k + 4) else if k = 37 then nI (zN s 37 - 1) else s k) (ys' := ys.eraseIdx i) hW.nb hx0 w2 ⟨w1, by rw [e37, hlen], fun k hk => by
      rw [e37] at hk
      have key : ∀ t, t < zN s 37 → h2 (ys.getD t 0) = some (ntE s t) := fun t ht => by
        have z1 := A1.ne hx0 (A3 t ht) (by intro _ z; cases z) (by intro _ _ _ z; cases z)
        exact w2 _ _ z1.1 z1.2 (A3 t ht)
      rw [eraseIdx_getD]
      by_cases t : k < i
      · rw [if_pos t, key k (by omega)]
        have U : ∀ j, 38 ≤ j → j < 38 + 4 * i → zN (fun k => if 38 + 4 * i ≤ k ∧ k < 38 + 4 * (zN s 37 - 1) then s (k + 4) else if k = 37 then nI (zN s 37 - 1) else s k) j = zN s j := fun j h1 h2 => zN_c (by rw [if_neg (by omega), if_neg (by omega)])
        unfold ntE
        rw [U (38 + 4 * k) (by omega) (by omega), U (39 + 4 * k) (by omega) (by omega), U (40 + 4 * k) (by omega) (by omega), U (41 + 4 * k) (by omega) (by omega)]
      · rw [if_neg t, key (k + 1) (by omega)]
        have U : ∀ j, 38 + 4 * i ≤ j → j < 38 + 4 * (zN s 37 - 1) → zN (fun k => if 38 + 4 * i ≤ k ∧ k < 38 + 4 * (zN s 37 - 1) then s (k + 4) else if k = 37 then nI (zN s 37 - 1) else s k) j = zN s (j + 4) := fun j h1 h2 => congrArg Int32.toNatClampNeg (if_pos ⟨h1, h2⟩)
        unfold ntE
        rw [U (38 + 4 * k) (by omega) (by omega), U (39 + 4 * k) (by omega) (by omega), U (40 + 4 * k) (by omega) (by omega), U (41 + 4 * k) (by omega) (by omega)]
        rw [show 38 + 4 * (k + 1) = 38 + 4 * k + 4 by omega, show 39 + 4 * (k + 1) = 39 + 4 * k + 4 by omega, show 40 + 4 * (k + 1) = 40 + 4 * k + 4 by omega, show 41 + 4 * (k + 1) = 41 + 4 * k + 4 by omega]⟩ (Or.inl rfl) (fun k hk => by rw [if_neg (by omega), if_neg (by omega)])
    have hsh2 := q2.1
    rw [shE_P (P := P) (fun i hi => va_up_n _ _ (by omega))] at hsh2
    unfold shE at hsh2
    refine x_pop (M := mX23_carryOut) (pc := 11) dX23_carryOut_11 ?_
    refine x_aload_n (M := mX23_carryOut) (pc := 12) dX23_carryOut_12 rfl ?_
    refine x_getN (M := mX23_carryOut) (pc := 13) kcX2 12 rfl q266 dX23_carryOut_13 (by first | assumption | exact xu_s _ _ _ | exact (xu_n (by first | assumption | exact Ne.symm (by assumption) | exact xu_fresh (by assumption) (by assumption) | exact (xu_fresh (by assumption) (by assumption)).symm)).trans (by first | assumption | exact xu_s _ _ _ | exact (xu_n (by first | assumption | exact Ne.symm (by assumption) | exact xu_fresh (by assumption) (by assumption) | exact (xu_fresh (by assumption) (by assumption)).symm)).trans (by first | assumption | exact xu_s _ _ _ | exact (xu_n (by first | assumption | exact Ne.symm (by assumption) | exact xu_fresh (by assumption) (by assumption) | exact (xu_fresh (by assumption) (by assumption)).symm)).trans (by first | assumption | exact xu_s _ _ _)))) rfl ?_
    refine x_V0 (M := mX23_carryOut) (pc := 16) (M' := mJ2_size) q592 kVJ2_size dX23_carryOut_16 (j_size h2 _ _ (d - 1) _ w1) (w1.is) (fun v_ h hq_ => ?_)
    obtain ⟨hv_, rfl⟩ := hq_; cases hv_
    refine x_iret (M := mX23_carryOut) (pc := 19) dX23_carryOut_19 rfl (by first | exact Nat.le_of_ble_eq_true rfl | omega) (by first | exact Nat.le_of_ble_eq_true rfl | omega) ?_
    exact ⟨by rw [hlen], ⟨_, _, _, q2, hO.up7 (Or.inl rfl)⟩, xlO.al A1 hx0 (hO.2.1 4 (by omega)) hO.2.2.2 w2⟩
end CARRY3

/-! commands: carried out (4): cuts, staples, printing -/
section CARRY4
set_option maxRecDepth 100000
variable {g : xG} {l : Launch} {h h0 h' : xH}
theorem bit_lt {a p : Nat} {k : Nat} (ha : a < 2 ^ k) (hp : p < k) : a ||| 2 ^ p < 2 ^ k := Nat.or_lt_two_pow ha (Nat.pow_lt_pow_right (by omega) hp)
theorem cy_cut (hh : xH) (cm sh d : Nat) (hd : 12 ≤ d) (O : Nat → Prop) (s : Row) (hW : WF s) (x v : Int32) (s' : Row) (hr : c_cut s x = .inr (v, s')) (hS : SH g hh O sh s) (hc : hh cm = some (.inr (15, [.int x]))) : Ct g l mX16_carryOut d 138 411 [.ref cm, .ref sh] hh (fun o h' => o = .inl (some (.int v)) ∧ RS g O hh sh s' h') := by
  obtain ⟨P, xs, ys, hS, hO⟩ := hS
  have hb := hW.b
  have h8 := hW.p8
  unfold c_cut at hr
  split at hr
  · cases hr
  · next q0 =>
    split at hr
    · cases hr
    · next q1 =>
      obtain ⟨n, rfl, -, hn⟩ := bIn_n (a := 0) (b := 3) (by omega) (by omega) (eq_true_of_ne_false q0)
      rw [show (nI n).toNatClampNeg = n from nI_clamp (by omega)] at hr q1
      cases hr
      have hbk : zBook s = true := eq_true_of_ne_false (fun z => q1 (Or.inl z))
      have hnc : (zN s 8).testBit n = false := by simpa using fun z => q1 (Or.inr z)
      refine Ct.of [some (.ref cm), some (.ref sh), none] (by decide +kernel) rfl (Nat.le_of_ble_eq_true rfl) rfl rfl ?_
      refine x_aload_n (M := mX16_carryOut) (pc := 0) dX16_carryOut_0 rfl ?_
      refine x_V0 (M := mX16_carryOut) (pc := 1) (M' := mX2_booklet) q1122 kVX2_booklet dX16_carryOut_1 (c_booklet hh sh (d - 1) (by omega) P s xs ys hS hW hbk) (hS.is) (fun v_ h1 hq_ => ?_)
      obtain ⟨bk, hv_, hB, hle⟩ := hq_; cases hv_
      have hc1 := hle _ _ hc
      have hS1 := hS.le hle
      have c8 := c_hangingB (g := g) (l := l) h1 bk sh (d - 1) n (by omega) (by omega) s (zLy s) hB
      rw [hnc] at c8
      refine x_aload_n (M := mX16_carryOut) (pc := 4) dX16_carryOut_4 rfl ?_
      refine x_get (M := mX16_carryOut) (pc := 5) kcX16 0 rfl q1453 dX16_carryOut_5 (by first | assumption | exact xu_s _ _ _ | exact (xu_n (by first | assumption | exact Ne.symm (by assumption) | exact xu_fresh (by assumption) (by assumption) | exact (xu_fresh (by assumption) (by assumption)).symm)).trans (by first | assumption | exact xu_s _ _ _ | exact (xu_n (by first | assumption | exact Ne.symm (by assumption) | exact xu_fresh (by assumption) (by assumption) | exact (xu_fresh (by assumption) (by assumption)).symm)).trans (by first | assumption | exact xu_s _ _ _ | exact (xu_n (by first | assumption | exact Ne.symm (by assumption) | exact xu_fresh (by assumption) (by assumption) | exact (xu_fresh (by assumption) (by assumption)).symm)).trans (by first | assumption | exact xu_s _ _ _)))) rfl ?_
      refine x_V1 (M := mX16_carryOut) (pc := 8) (M' := mX8_hanging) q1214 kVX8_hanging dX16_carryOut_8 (c8) (hB.is) (fun v_ h2 hq_ => ?_)
      obtain ⟨hv_, he_⟩ := hq_; cases hv_; subst he_
      have hsh := hS1.1
      obtain ⟨f5, h5, v5⟩ := hS1.2.2.2.2.1
      have hne : P 5 ≠ sh := fun z => by rw [z, hsh] at h5; cases h5
      have hne2 : cm ≠ sh := fun z => by rw [z, hsh] at hc1; cases hc1
      have hlt := bit_lt (k := 4) h8.2 (show n < 4 by omega)
      unfold shE at hsh
      have q1 := hS1.scL (s' := upd s 8 (nI (zN s 8 ||| 2 ^ n))) hW.nb (fun k hk => upd_n _ _ (by omega)) (zN_u (by omega)) (zN_u (by omega)) (zN_u (by omega)) (zN_u (by omega)) (zN_us (by omega)) (zN_u (by omega)) (zN_u (by omega)) (zN_u (by omega))
      have nb1 := nb_u (x := nI (zN s 8 ||| 2 ^ n)) (j := 8) hW.nb (by omega) (by omega)
      have v5' : ∀ k, k < 4 → f5 k = (upd s 8 (nI (zN s 8 ||| 2 ^ n))) (86 + k) := fun k hk => by rw [upd_n _ _ (by omega)]; exact v5 k hk
      have e5 : f5 2 = s 88 := v5 2 (by omega)
      have q2 := ef_up (x := s 88 + nI (zHi s * zWi s)) (show 2 < 4 by omega) q1 nb1 v5'
      have c35 := c_cells (g := g) (l := l) _ sh (d - 1) _ _ q1.1
      rw [show zHi (upd s 8 (nI (zN s 8 ||| 2 ^ n))) = zHi s from zN_u (by omega), show zWi (upd s 8 (nI (zN s 8 ||| 2 ^ n))) = zWi s from zN_u (by omega)] at c35
      refine x_istore2 (M := mX16_carryOut) (pc := 11) dX16_carryOut_11 ?_
      refine x_aload_n (M := mX16_carryOut) (pc := 12) dX16_carryOut_12 rfl ?_
      refine x_dup (M := mX16_carryOut) (pc := 13) dX16_carryOut_13 ?_
      refine x_getN (M := mX16_carryOut) (pc := 14) kcX2 7 rfl q238 dX16_carryOut_14 (by first | assumption | exact xu_s _ _ _ | exact (xu_n (by first | assumption | exact Ne.symm (by assumption) | exact xu_fresh (by assumption) (by assumption) | exact (xu_fresh (by assumption) (by assumption)).symm)).trans (by first | assumption | exact xu_s _ _ _ | exact (xu_n (by first | assumption | exact Ne.symm (by assumption) | exact xu_fresh (by assumption) (by assumption) | exact (xu_fresh (by assumption) (by assumption)).symm)).trans (by first | assumption | exact xu_s _ _ _ | exact (xu_n (by first | assumption | exact Ne.symm (by assumption) | exact xu_fresh (by assumption) (by assumption) | exact (xu_fresh (by assumption) (by assumption)).symm)).trans (by first | assumption | exact xu_s _ _ _)))) rfl ?_
      refine x_iconst (M := mX16_carryOut) (pc := 17) (v := 1) dX16_carryOut_17 (by decide) ?_
      refine x_aload_n (M := mX16_carryOut) (pc := 18) dX16_carryOut_18 rfl ?_
      refine x_get (M := mX16_carryOut) (pc := 19) kcX16 0 rfl q1453 dX16_carryOut_19 (by first | assumption | exact xu_s _ _ _ | exact (xu_n (by first | assumption | exact Ne.symm (by assumption) | exact xu_fresh (by assumption) (by assumption) | exact (xu_fresh (by assumption) (by assumption)).symm)).trans (by first | assumption | exact xu_s _ _ _ | exact (xu_n (by first | assumption | exact Ne.symm (by assumption) | exact xu_fresh (by assumption) (by assumption) | exact (xu_fresh (by assumption) (by assumption)).symm)).trans (by first | assumption | exact xu_s _ _ _ | exact (xu_n (by first | assumption | exact Ne.symm (by assumption) | exact xu_fresh (by assumption) (by assumption) | exact (xu_fresh (by assumption) (by assumption)).symm)).trans (by first | assumption | exact xu_s _ _ _)))) rfl ?_
      refine x_ishl (M := mX16_carryOut) (pc := 22) dX16_carryOut_22 ?_
      refine x_val (M := mX16_carryOut) (pc := 23) (nI_one _ (by omega)) ?_
      refine x_ior (M := mX16_carryOut) (pc := 23) dX16_carryOut_23 ?_
      refine x_val (M := mX16_carryOut) (pc := 24) (nI_or _ _) ?_
      refine x_putN7 (M := mX16_carryOut) (pc := 24) kcX2 q238 dX16_carryOut_24 (by first | assumption | exact xu_s _ _ _ | exact (xu_n (by first | assumption | exact Ne.symm (by assumption) | exact xu_fresh (by assumption) (by assumption) | exact (xu_fresh (by assumption) (by assumption)).symm)).trans (by first | assumption | exact xu_s _ _ _ | exact (xu_n (by first | assumption | exact Ne.symm (by assumption) | exact xu_fresh (by assumption) (by assumption) | exact (xu_fresh (by assumption) (by assumption)).symm)).trans (by first | assumption | exact xu_s _ _ _ | exact (xu_n (by first | assumption | exact Ne.symm (by assumption) | exact xu_fresh (by assumption) (by assumption) | exact (xu_fresh (by assumption) (by assumption)).symm)).trans (by first | assumption | exact xu_s _ _ _)))) ?_
      refine x_aload_n (M := mX16_carryOut) (pc := 27) dX16_carryOut_27 rfl ?_
      refine x_getN (M := mX16_carryOut) (pc := 28) kcX2 13 rfl q275 dX16_carryOut_28 (by first | assumption | exact xu_s _ _ _ | exact (xu_n (by first | assumption | exact Ne.symm (by assumption) | exact xu_fresh (by assumption) (by assumption) | exact (xu_fresh (by assumption) (by assumption)).symm)).trans (by first | assumption | exact xu_s _ _ _ | exact (xu_n (by first | assumption | exact Ne.symm (by assumption) | exact xu_fresh (by assumption) (by assumption) | exact (xu_fresh (by assumption) (by assumption)).symm)).trans (by first | assumption | exact xu_s _ _ _ | exact (xu_n (by first | assumption | exact Ne.symm (by assumption) | exact xu_fresh (by assumption) (by assumption) | exact (xu_fresh (by assumption) (by assumption)).symm)).trans (by first | assumption | exact xu_s _ _ _)))) rfl ?_
      refine x_iconst (M := mX16_carryOut) (pc := 31) (v := nI 2) dX16_carryOut_31 (by decide) ?_
      refine x_dup2 (M := mX16_carryOut) (pc := 32) dX16_carryOut_32 ?_
      refine x_ialdN (M := mX16_carryOut) (pc := 33) _ dX16_carryOut_33 (by first | assumption | exact xu_s _ _ _ | exact (xu_n (by first | assumption | exact Ne.symm (by assumption) | exact xu_fresh (by assumption) (by assumption) | exact (xu_fresh (by assumption) (by assumption)).symm)).trans (by first | assumption | exact xu_s _ _ _ | exact (xu_n (by first | assumption | exact Ne.symm (by assumption) | exact xu_fresh (by assumption) (by assumption) | exact (xu_fresh (by assumption) (by assumption)).symm)).trans (by first | assumption | exact xu_s _ _ _ | exact (xu_n (by first | assumption | exact Ne.symm (by assumption) | exact xu_fresh (by assumption) (by assumption) | exact (xu_fresh (by assumption) (by assumption)).symm)).trans (by first | assumption | exact xu_s _ _ _)))) (by first | rfl | assumption) (by first | assumption | omega) (by first | decide | omega) ?_
      refine x_val (M := mX16_carryOut) (pc := 34) (e5) ?_
      refine x_aload_n (M := mX16_carryOut) (pc := 34) dX16_carryOut_34 rfl ?_
      refine x_V0 (M := mX16_carryOut) (pc := 35) (M' := mX2_cells) q1218 kVX2_cells dX16_carryOut_35 (c35) (q1.is) (fun v_ h hq_ => ?_)
      obtain ⟨hv_, rfl⟩ := hq_; cases hv_
      first | with_reducible refine x_iaddN (M := mX16_carryOut) (pc := 38) dX16_carryOut_38 ?_ | refine x_iadd (M := mX16_carryOut) (pc := 38) dX16_carryOut_38 ?_
      refine x_iastN (M := mX16_carryOut) (pc := 39) _ dX16_carryOut_39 (by first | assumption | exact xu_s _ _ _ | exact (xu_n (by first | assumption | exact Ne.symm (by assumption) | exact xu_fresh (by assumption) (by assumption) | exact (xu_fresh (by assumption) (by assumption)).symm)).trans (by first | assumption | exact xu_s _ _ _ | exact (xu_n (by first | assumption | exact Ne.symm (by assumption) | exact xu_fresh (by assumption) (by assumption) | exact (xu_fresh (by assumption) (by assumption)).symm)).trans (by first | assumption | exact xu_s _ _ _ | exact (xu_n (by first | assumption | exact Ne.symm (by assumption) | exact xu_fresh (by assumption) (by assumption) | exact (xu_fresh (by assumption) (by assumption)).symm)).trans (by first | assumption | exact xu_s _ _ _)))) (by first | rfl | assumption) (by first | assumption | omega) (by first | decide | omega) ?_
      refine x_iload_n (M := mX16_carryOut) (pc := 40) dX16_carryOut_40 rfl ?_
      refine x_iret (M := mX16_carryOut) (pc := 41) dX16_carryOut_41 rfl (by first | exact Nat.le_of_ble_eq_true rfl | omega) (by first | exact Nat.le_of_ble_eq_true rfl | omega) ?_
      exact ⟨rfl, ⟨P, xs, ys, q2, hO.on⟩, ((xlO.le hle).tr (xlO.up hO.1 hS1.1 rfl)).tr (xlO.up (hO.2.1 5 (by omega)) ((xu_n hne).trans h5) rfl)⟩
theorem cy_staple (hh : xH) (cm sh d : Nat) (hd : 12 ≤ d) (O : Nat → Prop) (s : Row) (hW : WF s) (x v : Int32) (s' : Row) (hr : c_staple s x = .inr (v, s')) (hS : SH g hh O sh s) (hc : hh cm = some (.inr (16, [.int x]))) : Ct g l mX17_carryOut d 138 411 [.ref cm, .ref sh] hh (fun o h' => o = .inl (some (.int v)) ∧ RS g O hh sh s' h') := by
  have hW' : WF s' := (k_staple hW x _ _ hr).1
  obtain ⟨P, xs, ys, hS, hO⟩ := hS
  have hb := hW.b
  have h9 := hW.p9
  have h10 := hW.p10.2
  unfold c_staple at hr
  split at hr
  · cases hr
  · next q0 =>
    split at hr
    · cases hr
    · next q1 =>
      split at hr
      · cases hr
      · obtain ⟨n, rfl, -, hn⟩ := bIn_n (a := 0) (b := 9) (by omega) (by omega) (eq_true_of_ne_false q0)
        rw [show (nI n).toNatClampNeg = n from nI_clamp (by omega)] at hr q1
        cases hr
        have hbk : zBook s = true := eq_true_of_ne_false (fun z => q1 (Or.inl z))
        have hsh := hS.1
        obtain ⟨f5, h5, v5⟩ := hS.2.2.2.2.1
        have hne : P 5 ≠ sh := fun z => by rw [z, hsh] at h5; cases h5
        have hne2 : cm ≠ sh := fun z => by rw [z, hsh] at hc; cases hc
        have hlt := bit_lt (k := 10) h9.2 (show n < 10 by omega)
        have hnz : zN s 9 ||| 2 ^ n ≠ 0 := fun z => by
          have : (zN s 9 ||| 2 ^ n).testBit n = true := by rw [or_bit]; simp
          rw [z] at this; simp at this
        unfold shE at hsh
        have q1 := hS.scL (s' := upd s 9 (nI (zN s 9 ||| 2 ^ n))) hW.nb (fun k hk => upd_n _ _ (by omega)) (zN_u (by omega)) (zN_u (by omega)) (zN_u (by omega)) (zN_u (by omega)) (zN_u (by omega)) (zN_us (by omega)) (zN_u (by omega)) (zN_u (by omega))
        have nb1 := nb_u (x := nI (zN s 9 ||| 2 ^ n)) (j := 9) hW.nb (by omega) (by omega)
        have v5' : ∀ k, k < 4 → f5 k = (upd s 9 (nI (zN s 9 ||| 2 ^ n))) (86 + k) := fun k hk => by rw [upd_n _ _ (by omega)]; exact v5 k hk
        have e5 : f5 3 = s 89 := v5 3 (by omega)
        have q2 := ef_up (x := s 89 + 3) (show 3 < 4 by omega) q1 nb1 v5'
        have U : ∀ j, j ≠ 9 → j ≠ 89 → zN (upd (upd s 9 (nI (zN s 9 ||| 2 ^ n))) 89 (s 89 + 3)) j = zN s j := fun j a b => by rw [zN_u b, zN_u a]
        have e9 : zN (upd (upd s 9 (nI (zN s 9 ||| 2 ^ n))) 89 (s 89 + 3)) 9 = zN s 9 ||| 2 ^ n := by rw [zN_u (by omega)]; exact zN_us (by omega)
        have hbk' : zBook (upd (upd s 9 (nI (zN s 9 ||| 2 ^ n))) 89 (s 89 + 3)) = true := by
          unfold zBook zHi zWi zNf at hbk ⊢; rw [U 0 (by omega) (by omega), U 1 (by omega) (by omega), U 2 (by omega) (by omega)]; exact hbk
        have hl0 := (xlO.up (O := O) (e' := shL P (zHi s) (zWi s) (zNf s) (zN s 7) (zN s 8) (zN s 9 ||| 2 ^ n) (zN s 10) (zN s 11)) hO.1 hS.1 rfl).tr (xlO.up (e' := .inl (xdA g 0, 4, .inl (upd f5 3 (s 89 + 3)))) (hO.2.1 5 (by omega)) ((xu_n hne).trans h5) rfl)
        refine Ct.of [some (.ref cm), some (.ref sh)] (by decide +kernel) rfl (Nat.le_of_ble_eq_true rfl) rfl rfl ?_
        refine x_aload_n (M := mX17_carryOut) (pc := 0) dX17_carryOut_0 rfl ?_
        refine x_dup (M := mX17_carryOut) (pc := 1) dX17_carryOut_1 ?_
        refine x_getN (M := mX17_carryOut) (pc := 2) kcX2 8 rfl q245 dX17_carryOut_2 (by first | assumption | exact xu_s _ _ _ | exact (xu_n (by first | assumption | exact Ne.symm (by assumption) | exact xu_fresh (by assumption) (by assumption) | exact (xu_fresh (by assumption) (by assumption)).symm)).trans (by first | assumption | exact xu_s _ _ _ | exact (xu_n (by first | assumption | exact Ne.symm (by assumption) | exact xu_fresh (by assumption) (by assumption) | exact (xu_fresh (by assumption) (by assumption)).symm)).trans (by first | assumption | exact xu_s _ _ _ | exact (xu_n (by first | assumption | exact Ne.symm (by assumption) | exact xu_fresh (by assumption) (by assumption) | exact (xu_fresh (by assumption) (by assumption)).symm)).trans (by first | assumption | exact xu_s _ _ _)))) rfl ?_
        refine x_iconst (M := mX17_carryOut) (pc := 5) (v := 1) dX17_carryOut_5 (by decide) ?_
        refine x_aload_n (M := mX17_carryOut) (pc := 6) dX17_carryOut_6 rfl ?_
        refine x_get (M := mX17_carryOut) (pc := 7) kcX17 0 rfl q1467 dX17_carryOut_7 (by first | assumption | exact xu_s _ _ _ | exact (xu_n (by first | assumption | exact Ne.symm (by assumption) | exact xu_fresh (by assumption) (by assumption) | exact (xu_fresh (by assumption) (by assumption)).symm)).trans (by first | assumption | exact xu_s _ _ _ | exact (xu_n (by first | assumption | exact Ne.symm (by assumption) | exact xu_fresh (by assumption) (by assumption) | exact (xu_fresh (by assumption) (by assumption)).symm)).trans (by first | assumption | exact xu_s _ _ _ | exact (xu_n (by first | assumption | exact Ne.symm (by assumption) | exact xu_fresh (by assumption) (by assumption) | exact (xu_fresh (by assumption) (by assumption)).symm)).trans (by first | assumption | exact xu_s _ _ _)))) rfl ?_
        refine x_ishl (M := mX17_carryOut) (pc := 10) dX17_carryOut_10 ?_
        refine x_val (M := mX17_carryOut) (pc := 11) (nI_one _ (by omega)) ?_
        refine x_ior (M := mX17_carryOut) (pc := 11) dX17_carryOut_11 ?_
        refine x_val (M := mX17_carryOut) (pc := 12) (nI_or _ _) ?_
        refine x_putN8 (M := mX17_carryOut) (pc := 12) kcX2 q245 dX17_carryOut_12 (by first | assumption | exact xu_s _ _ _ | exact (xu_n (by first | assumption | exact Ne.symm (by assumption) | exact xu_fresh (by assumption) (by assumption) | exact (xu_fresh (by assumption) (by assumption)).symm)).trans (by first | assumption | exact xu_s _ _ _ | exact (xu_n (by first | assumption | exact Ne.symm (by assumption) | exact xu_fresh (by assumption) (by assumption) | exact (xu_fresh (by assumption) (by assumption)).symm)).trans (by first | assumption | exact xu_s _ _ _ | exact (xu_n (by first | assumption | exact Ne.symm (by assumption) | exact xu_fresh (by assumption) (by assumption) | exact (xu_fresh (by assumption) (by assumption)).symm)).trans (by first | assumption | exact xu_s _ _ _)))) ?_
        refine x_aload_n (M := mX17_carryOut) (pc := 15) dX17_carryOut_15 rfl ?_
        refine x_getN (M := mX17_carryOut) (pc := 16) kcX2 13 rfl q273 dX17_carryOut_16 (by first | assumption | exact xu_s _ _ _ | exact (xu_n (by first | assumption | exact Ne.symm (by assumption) | exact xu_fresh (by assumption) (by assumption) | exact (xu_fresh (by assumption) (by assumption)).symm)).trans (by first | assumption | exact xu_s _ _ _ | exact (xu_n (by first | assumption | exact Ne.symm (by assumption) | exact xu_fresh (by assumption) (by assumption) | exact (xu_fresh (by assumption) (by assumption)).symm)).trans (by first | assumption | exact xu_s _ _ _ | exact (xu_n (by first | assumption | exact Ne.symm (by assumption) | exact xu_fresh (by assumption) (by assumption) | exact (xu_fresh (by assumption) (by assumption)).symm)).trans (by first | assumption | exact xu_s _ _ _)))) rfl ?_
        refine x_iconst (M := mX17_carryOut) (pc := 19) (v := nI 3) dX17_carryOut_19 (by decide) ?_
        refine x_dup2 (M := mX17_carryOut) (pc := 20) dX17_carryOut_20 ?_
        refine x_ialdN (M := mX17_carryOut) (pc := 21) _ dX17_carryOut_21 (by first | assumption | exact xu_s _ _ _ | exact (xu_n (by first | assumption | exact Ne.symm (by assumption) | exact xu_fresh (by assumption) (by assumption) | exact (xu_fresh (by assumption) (by assumption)).symm)).trans (by first | assumption | exact xu_s _ _ _ | exact (xu_n (by first | assumption | exact Ne.symm (by assumption) | exact xu_fresh (by assumption) (by assumption) | exact (xu_fresh (by assumption) (by assumption)).symm)).trans (by first | assumption | exact xu_s _ _ _ | exact (xu_n (by first | assumption | exact Ne.symm (by assumption) | exact xu_fresh (by assumption) (by assumption) | exact (xu_fresh (by assumption) (by assumption)).symm)).trans (by first | assumption | exact xu_s _ _ _)))) (by first | rfl | assumption) (by first | assumption | omega) (by first | decide | omega) ?_
        refine x_val (M := mX17_carryOut) (pc := 22) (e5) ?_
        refine x_iconst (M := mX17_carryOut) (pc := 22) (v := 3) dX17_carryOut_22 (by decide) ?_
        first | with_reducible refine x_iaddN (M := mX17_carryOut) (pc := 23) dX17_carryOut_23 ?_ | refine x_iadd (M := mX17_carryOut) (pc := 23) dX17_carryOut_23 ?_
        refine x_iastN (M := mX17_carryOut) (pc := 24) _ dX17_carryOut_24 (by first | assumption | exact xu_s _ _ _ | exact (xu_n (by first | assumption | exact Ne.symm (by assumption) | exact xu_fresh (by assumption) (by assumption) | exact (xu_fresh (by assumption) (by assumption)).symm)).trans (by first | assumption | exact xu_s _ _ _ | exact (xu_n (by first | assumption | exact Ne.symm (by assumption) | exact xu_fresh (by assumption) (by assumption) | exact (xu_fresh (by assumption) (by assumption)).symm)).trans (by first | assumption | exact xu_s _ _ _ | exact (xu_n (by first | assumption | exact Ne.symm (by assumption) | exact xu_fresh (by assumption) (by assumption) | exact (xu_fresh (by assumption) (by assumption)).symm)).trans (by first | assumption | exact xu_s _ _ _)))) (by first | rfl | assumption) (by first | assumption | omega) (by first | decide | omega) ?_
        refine x_aload_n (M := mX17_carryOut) (pc := 25) dX17_carryOut_25 rfl ?_
        rotate_left
        refine x_V0 (M := mX17_carryOut) (pc := 26) (M' := mX2_booklet) q1348 kVX2_booklet dX17_carryOut_26 (c_booklet _ sh (d - 1) (by omega) P _ xs ys q2 hW' hbk') (q2.is) (fun v_ h1 hq_ => ?_)
        obtain ⟨bk, hv_, hB, hle⟩ := hq_; cases hv_
        have c29 := c_stapled (g := g) (l := l) h1 bk sh (d - 1) (by omega) _ _ hB
        rw [e9, if_neg hnz, U 10 (by omega) (by omega), show zHi (upd (upd s 9 (nI (zN s 9 ||| 2 ^ n))) 89 (s 89 + 3)) = zHi s from U 0 (by omega) (by omega), show zWi (upd (upd s 9 (nI (zN s 9 ||| 2 ^ n))) 89 (s 89 + 3)) = zWi s from U 1 (by omega) (by omega)] at c29
        refine x_V0 (M := mX17_carryOut) (pc := 29) (M' := mX8_stapled) q1349 kVX8_stapled dX17_carryOut_29 (c29) (hB.is) (fun v_ h2 hq_ => ?_)
        obtain ⟨hv_, he_⟩ := hq_; cases hv_; subst he_
        refine x_iret (M := mX17_carryOut) (pc := 32) dX17_carryOut_32 rfl (by first | exact Nat.le_of_ble_eq_true rfl | omega) (by first | exact Nat.le_of_ble_eq_true rfl | omega) ?_
        exact ⟨rfl, ⟨P, xs, ys, q2.le hle, hO.on⟩, hl0.tr (xlO.le hle)⟩
theorem cy_unstaple (h : xH) (cm sh d : Nat) (hd : 1 ≤ d) (O : Nat → Prop) (s : Row) (hW : WF s) (x v : Int32) (s' : Row) (hr : c_unstaple s x = .inr (v, s')) (hS : SH g h O sh s) (hc : h cm = some (.inr (17, [.int x]))) : Ct g l mX18_carryOut d 0 0 [.ref cm, .ref sh] h (fun o h' => o = .inl (some (.int v)) ∧ RS g O h sh s' h') := by
  obtain ⟨P, xs, ys, hS, hO⟩ := hS
  have h9 := hW.p9
  unfold c_unstaple at hr
  split at hr
  · cases hr
  · next q0 =>
    split at hr
    · cases hr
    · next q1 =>
      obtain ⟨n, rfl, -, hn⟩ := bIn_n (a := 0) (b := 9) (by omega) (by omega) (eq_true_of_ne_false q0)
      rw [show (nI n).toNatClampNeg = n from nI_clamp (by omega)] at hr
      cases hr
      have hsh := hS.1
      obtain ⟨f5, h5, v5⟩ := hS.2.2.2.2.1
      have hne : P 5 ≠ sh := fun z => by rw [z, hsh] at h5; cases h5
      have hne2 : cm ≠ sh := fun z => by rw [z, hsh] at hc; cases hc
      have hle := p_clr_le (zN s 9) n
      have hlt : p_clr (zN s 9) n < 1024 := by have := h9.2; omega
      unfold shE at hsh
      have q1 := hS.scL (s' := upd s 9 (nI (p_clr (zN s 9) n))) hW.nb (fun k hk => upd_n _ _ (by omega)) (zN_u (by omega)) (zN_u (by omega)) (zN_u (by omega)) (zN_u (by omega)) (zN_u (by omega)) (zN_us (by omega)) (zN_u (by omega)) (zN_u (by omega))
      have nb1 := nb_u (x := nI (p_clr (zN s 9) n)) (j := 9) hW.nb (by omega) (by omega)
      have v5' : ∀ k, k < 4 → f5 k = (upd s 9 (nI (p_clr (zN s 9) n))) (86 + k) := fun k hk => by rw [upd_n _ _ (by omega)]; exact v5 k hk
      have e5 : f5 3 = s 89 := v5 3 (by omega)
      have q2 := ef_up (x := s 89 + 1) (show 3 < 4 by omega) q1 nb1 v5'
      have hl0 := (xlO.up (O := O) (e' := shL P (zHi s) (zWi s) (zNf s) (zN s 7) (zN s 8) (p_clr (zN s 9) n) (zN s 10) (zN s 11)) hO.1 hS.1 rfl).tr (xlO.up (e' := .inl (xdA g 0, 4, .inl (upd f5 3 (s 89 + 1)))) (hO.2.1 5 (by omega)) ((xu_n hne).trans h5) rfl)
      refine Ct.of [some (.ref cm), some (.ref sh)] (by decide +kernel) rfl (Nat.le_of_ble_eq_true rfl) rfl rfl ?_
      refine x_aload_n (M := mX18_carryOut) (pc := 0) dX18_carryOut_0 rfl ?_
      refine x_dup (M := mX18_carryOut) (pc := 1) dX18_carryOut_1 ?_
      refine x_getN (M := mX18_carryOut) (pc := 2) kcX2 8 rfl q244 dX18_carryOut_2 (by first | assumption | exact xu_s _ _ _ | exact (xu_n (by first | assumption | exact Ne.symm (by assumption) | exact xu_fresh (by assumption) (by assumption) | exact (xu_fresh (by assumption) (by assumption)).symm)).trans (by first | assumption | exact xu_s _ _ _ | exact (xu_n (by first | assumption | exact Ne.symm (by assumption) | exact xu_fresh (by assumption) (by assumption) | exact (xu_fresh (by assumption) (by assumption)).symm)).trans (by first | assumption | exact xu_s _ _ _ | exact (xu_n (by first | assumption | exact Ne.symm (by assumption) | exact xu_fresh (by assumption) (by assumption) | exact (xu_fresh (by assumption) (by assumption)).symm)).trans (by first | assumption | exact xu_s _ _ _)))) rfl ?_
      refine x_iconst (M := mX18_carryOut) (pc := 5) (v := 1) dX18_carryOut_5 (by decide) ?_
      refine x_aload_n (M := mX18_carryOut) (pc := 6) dX18_carryOut_6 rfl ?_
      refine x_get (M := mX18_carryOut) (pc := 7) kcX18 0 rfl q1481 dX18_carryOut_7 (by first | assumption | exact xu_s _ _ _ | exact (xu_n (by first | assumption | exact Ne.symm (by assumption) | exact xu_fresh (by assumption) (by assumption) | exact (xu_fresh (by assumption) (by assumption)).symm)).trans (by first | assumption | exact xu_s _ _ _ | exact (xu_n (by first | assumption | exact Ne.symm (by assumption) | exact xu_fresh (by assumption) (by assumption) | exact (xu_fresh (by assumption) (by assumption)).symm)).trans (by first | assumption | exact xu_s _ _ _ | exact (xu_n (by first | assumption | exact Ne.symm (by assumption) | exact xu_fresh (by assumption) (by assumption) | exact (xu_fresh (by assumption) (by assumption)).symm)).trans (by first | assumption | exact xu_s _ _ _)))) rfl ?_
      refine x_ishl (M := mX18_carryOut) (pc := 10) dX18_carryOut_10 ?_
      refine x_val (M := mX18_carryOut) (pc := 11) (nI_one _ (by omega)) ?_
      refine x_iconst (M := mX18_carryOut) (pc := 11) (v := (-1)) dX18_carryOut_11 (by decide) ?_
      refine x_ixor (M := mX18_carryOut) (pc := 12) dX18_carryOut_12 ?_
      refine x_iand (M := mX18_carryOut) (pc := 13) dX18_carryOut_13 ?_
      refine x_val (M := mX18_carryOut) (pc := 14) (nI_clr h9.2 (by omega)) ?_
      refine x_putN8 (M := mX18_carryOut) (pc := 14) kcX2 q244 dX18_carryOut_14 (by first | assumption | exact xu_s _ _ _ | exact (xu_n (by first | assumption | exact Ne.symm (by assumption) | exact xu_fresh (by assumption) (by assumption) | exact (xu_fresh (by assumption) (by assumption)).symm)).trans (by first | assumption | exact xu_s _ _ _ | exact (xu_n (by first | assumption | exact Ne.symm (by assumption) | exact xu_fresh (by assumption) (by assumption) | exact (xu_fresh (by assumption) (by assumption)).symm)).trans (by first | assumption | exact xu_s _ _ _ | exact (xu_n (by first | assumption | exact Ne.symm (by assumption) | exact xu_fresh (by assumption) (by assumption) | exact (xu_fresh (by assumption) (by assumption)).symm)).trans (by first | assumption | exact xu_s _ _ _)))) ?_
      refine x_aload_n (M := mX18_carryOut) (pc := 17) dX18_carryOut_17 rfl ?_
      refine x_getN (M := mX18_carryOut) (pc := 18) kcX2 13 rfl q274 dX18_carryOut_18 (by first | assumption | exact xu_s _ _ _ | exact (xu_n (by first | assumption | exact Ne.symm (by assumption) | exact xu_fresh (by assumption) (by assumption) | exact (xu_fresh (by assumption) (by assumption)).symm)).trans (by first | assumption | exact xu_s _ _ _ | exact (xu_n (by first | assumption | exact Ne.symm (by assumption) | exact xu_fresh (by assumption) (by assumption) | exact (xu_fresh (by assumption) (by assumption)).symm)).trans (by first | assumption | exact xu_s _ _ _ | exact (xu_n (by first | assumption | exact Ne.symm (by assumption) | exact xu_fresh (by assumption) (by assumption) | exact (xu_fresh (by assumption) (by assumption)).symm)).trans (by first | assumption | exact xu_s _ _ _)))) rfl ?_
      refine x_iconst (M := mX18_carryOut) (pc := 21) (v := nI 3) dX18_carryOut_21 (by decide) ?_
      refine x_dup2 (M := mX18_carryOut) (pc := 22) dX18_carryOut_22 ?_
      refine x_ialdN (M := mX18_carryOut) (pc := 23) _ dX18_carryOut_23 (by first | assumption | exact xu_s _ _ _ | exact (xu_n (by first | assumption | exact Ne.symm (by assumption) | exact xu_fresh (by assumption) (by assumption) | exact (xu_fresh (by assumption) (by assumption)).symm)).trans (by first | assumption | exact xu_s _ _ _ | exact (xu_n (by first | assumption | exact Ne.symm (by assumption) | exact xu_fresh (by assumption) (by assumption) | exact (xu_fresh (by assumption) (by assumption)).symm)).trans (by first | assumption | exact xu_s _ _ _ | exact (xu_n (by first | assumption | exact Ne.symm (by assumption) | exact xu_fresh (by assumption) (by assumption) | exact (xu_fresh (by assumption) (by assumption)).symm)).trans (by first | assumption | exact xu_s _ _ _)))) (by first | rfl | assumption) (by first | assumption | omega) (by first | decide | omega) ?_
      refine x_val (M := mX18_carryOut) (pc := 24) (e5) ?_
      refine x_iconst (M := mX18_carryOut) (pc := 24) (v := 1) dX18_carryOut_24 (by decide) ?_
      first | with_reducible refine x_iaddN (M := mX18_carryOut) (pc := 25) dX18_carryOut_25 ?_ | refine x_iadd (M := mX18_carryOut) (pc := 25) dX18_carryOut_25 ?_
      refine x_iastN (M := mX18_carryOut) (pc := 26) _ dX18_carryOut_26 (by first | assumption | exact xu_s _ _ _ | exact (xu_n (by first | assumption | exact Ne.symm (by assumption) | exact xu_fresh (by assumption) (by assumption) | exact (xu_fresh (by assumption) (by assumption)).symm)).trans (by first | assumption | exact xu_s _ _ _ | exact (xu_n (by first | assumption | exact Ne.symm (by assumption) | exact xu_fresh (by assumption) (by assumption) | exact (xu_fresh (by assumption) (by assumption)).symm)).trans (by first | assumption | exact xu_s _ _ _ | exact (xu_n (by first | assumption | exact Ne.symm (by assumption) | exact xu_fresh (by assumption) (by assumption) | exact (xu_fresh (by assumption) (by assumption)).symm)).trans (by first | assumption | exact xu_s _ _ _)))) (by first | rfl | assumption) (by first | assumption | omega) (by first | decide | omega) ?_
      refine x_aload_n (M := mX18_carryOut) (pc := 27) dX18_carryOut_27 rfl ?_
      refine x_getN (M := mX18_carryOut) (pc := 28) kcX2 8 rfl q244 dX18_carryOut_28 (by first | assumption | exact xu_s _ _ _ | exact (xu_n (by first | assumption | exact Ne.symm (by assumption) | exact xu_fresh (by assumption) (by assumption) | exact (xu_fresh (by assumption) (by assumption)).symm)).trans (by first | assumption | exact xu_s _ _ _ | exact (xu_n (by first | assumption | exact Ne.symm (by assumption) | exact xu_fresh (by assumption) (by assumption) | exact (xu_fresh (by assumption) (by assumption)).symm)).trans (by first | assumption | exact xu_s _ _ _ | exact (xu_n (by first | assumption | exact Ne.symm (by assumption) | exact xu_fresh (by assumption) (by assumption) | exact (xu_fresh (by assumption) (by assumption)).symm)).trans (by first | assumption | exact xu_s _ _ _)))) rfl ?_
      rotate_left
      refine x_S1 (M := mX18_carryOut) (pc := 31) (M' := mJ10_bitCount) q1363 kSJ10_bitCount dX18_carryOut_31 (j_bitCount _ (p_clr (zN s 9) n) (d - 1) hlt) (fun v_ h1 hq_ => ?_)
      obtain ⟨hv_, he_⟩ := hq_; cases hv_; subst he_
      refine x_iret (M := mX18_carryOut) (pc := 34) dX18_carryOut_34 rfl (by first | exact Nat.le_of_ble_eq_true rfl | omega) (by first | exact Nat.le_of_ble_eq_true rfl | omega) ?_
      exact ⟨rfl, ⟨P, xs, ys, q2, hO.on⟩, hl0⟩
theorem xl3.own {O : Nat → Prop} {sh : Nat} {P : Nat → Nat} {s : Row} {xs ys : List Nat} (hS : SHP g h sh P s xs ys) (hO : own g O sh P) (hl : xl3 (P 1) (P 2) (P 5) h h') : xlO O h h' := fun p e z w => by
  obtain ⟨-, -, ⟨f3, h3, -⟩, ⟨f4, h4, -⟩, ⟨f5, h5, -⟩, -⟩ := hS
  refine hl p e (fun t => ?_) (fun t => ?_) (fun t => ?_) z
  · subst t; rw [h3] at z; cases z
    rcases w with w | w
    · exact w (hO.2.1 1 (by omega))
    · cases w
  · subst t; rw [h4] at z; cases z
    rcases w with w | w
    · exact w (hO.2.1 2 (by omega))
    · cases w
  · subst t; rw [h5] at z; cases z
    rcases w with w | w
    · exact w (hO.2.1 5 (by omega))
    · cases w
theorem at_lt {a b c hi wi : Nat} (ha : a < hi) (hb : b < wi) (hc : c < 2) : 2 * (a * wi + b) + c < 2 * (hi * wi) := by
  have : (a + 1) * wi ≤ hi * wi := Nat.mul_le_mul_right _ ha
  rw [Nat.succ_mul] at this
  omega
theorem pt1 {w : Int32} {tb : Bool} (h : w = -1) : nI 0 = bI (decide (w ≠ -1) && tb) := by rw [decide_eq_false (fun z => z h)]; rfl
theorem pt2 {w : Int32} {tb : Bool} (h : w ≠ -1) (h2 : tb = true) : nI 1 = bI (decide (w ≠ -1) && tb) := by rw [decide_eq_true h, h2]; rfl
theorem pt3 {w : Int32} {tb : Bool} (h2 : tb = false) : nI 0 = bI (decide (w ≠ -1) && tb) := by rw [h2, Bool.and_false]; rfl
theorem cy_print (h : xH) (cm sh d : Nat) (hd : 1 ≤ d) (O : Nat → Prop) (s : Row) (hW : WF s) (x y z w t v : Int32) (s' : Row) (hr : c_print s x y z w t = .inr (v, s')) (hS : SH g h O sh s) (hc : h cm = some (.inr (13, [.int x, .int y, .int z, .int w, .int t]))) : Ct g l mX14_carryOut d 0 0 [.ref cm, .ref sh] h (fun o h' => o = .inl (some (.int v)) ∧ RS g O h sh s' h') := by
  obtain ⟨P, xs, ys, hS, hO⟩ := hS
  have hb := hW.b
  unfold c_print at hr
  split at hr
  · cases hr
  · next q0 =>
    split at hr
    · cases hr
    · have q0 := eq_true_of_ne_false q0
      rw [zCell_i hW, Bool.and_eq_true, Bool.and_eq_true, Bool.and_eq_true, Bool.and_eq_true] at q0
      obtain ⟨a, rfl, -, ha⟩ := bIn_n (a := 0) (by omega) (by omega) q0.1.1.1.1
      obtain ⟨b, rfl, -, hb2⟩ := bIn_n (a := 0) (by omega) (by omega) q0.1.1.1.2
      obtain ⟨c, rfl, -, hc2⟩ := bIn_n (a := 0) (b := 1) (by omega) (by omega) q0.1.1.2
      have hnu := nu_n q0.1.2
      obtain ⟨tb, rfl⟩ := tn_n q0.2
      have hat : zAt s (nI a) (nI b) (nI c) = 2 * (a * zWi s + b) + c := by
        unfold zAt; rw [nI_clamp (by omega), nI_clamp (by omega), nI_clamp (by omega), Nat.mul_comm (zWi s) a]
      rw [hat] at hr
      cases hr
      have hlt := at_lt (hi := zHi s) (wi := zWi s) (a := a) (b := b) (c := c) (by omega) (by omega) (by omega)
      obtain ⟨at_, hat_⟩ : ∃ q, q = 2 * (a * zWi s + b) + c := ⟨_, rfl⟩
      rw [← hat_] at hlt ⊢
      have hsh := hS.1
      obtain ⟨f1, h1, v1⟩ := hS.2.2.1
      unfold shE at hsh
      have e1 : f1 at_ = zNone (s (90 + at_)) := v1 at_ (by omega)
      have hnu' : w = -1 ∨ ∃ m, m < 32 ∧ w = nI m := hnu.imp id (fun ⟨m, q1, q2⟩ => ⟨m, q2, q1⟩)
      have ht : p_prT w (bI tb) = bI (decide (w ≠ -1) && tb) := by
        unfold p_prT
        rcases hnu' with rfl | ⟨m, hm, rfl⟩
        · rw [if_pos (by decide)]; rfl
        · rw [if_neg (nI_pos (by omega)), decide_eq_true (show nI m ≠ -1 from fun z => absurd (show (-1 : Int32) < 0 by decide) (by rw [← z]; exact nI_pos (by omega))), Bool.true_and]
      have c64 := c_prS (g := g) (l := l) h sh (d - 1) at_ P s xs ys hW hS (by omega) w (bI tb) _ hnu' ht
      have hw1 : w = -1 → (-9 : Int32) = zNone w := fun z => by rw [z]; decide
      have hw2 : w ≠ -1 → w = zNone w := fun z => by
        rcases hnu' with q | ⟨m, hm, rfl⟩
        · exact absurd q z
        · unfold zNone; rw [if_neg (nI_pos (by omega))]
      have hi1 : bI tb = nI 1 ↔ tb = true := by cases tb <;> decide
      have hi0 : ¬ bI tb = nI 1 → tb = false := fun z => by simpa using mt hi1.mpr z
      refine Ct.of [some (.ref cm), some (.ref sh), none, none] (by decide +kernel) rfl (Nat.le_of_ble_eq_true rfl) rfl rfl ?_
      refine x_aload_n (M := mX14_carryOut) (pc := 0) dX14_carryOut_0 rfl ?_
      refine x_aload_n (M := mX14_carryOut) (pc := 1) dX14_carryOut_1 rfl ?_
      refine x_get (M := mX14_carryOut) (pc := 2) kcX14 0 rfl q1413 dX14_carryOut_2 (by first | assumption | exact xu_s _ _ _ | exact (xu_n (by first | assumption | exact Ne.symm (by assumption) | exact xu_fresh (by assumption) (by assumption) | exact (xu_fresh (by assumption) (by assumption)).symm)).trans (by first | assumption | exact xu_s _ _ _ | exact (xu_n (by first | assumption | exact Ne.symm (by assumption) | exact xu_fresh (by assumption) (by assumption) | exact (xu_fresh (by assumption) (by assumption)).symm)).trans (by first | assumption | exact xu_s _ _ _ | exact (xu_n (by first | assumption | exact Ne.symm (by assumption) | exact xu_fresh (by assumption) (by assumption) | exact (xu_fresh (by assumption) (by assumption)).symm)).trans (by first | assumption | exact xu_s _ _ _)))) rfl ?_
      refine x_aload_n (M := mX14_carryOut) (pc := 5) dX14_carryOut_5 rfl ?_
      refine x_get (M := mX14_carryOut) (pc := 6) kcX14 1 rfl q1414 dX14_carryOut_6 (by first | assumption | exact xu_s _ _ _ | exact (xu_n (by first | assumption | exact Ne.symm (by assumption) | exact xu_fresh (by assumption) (by assumption) | exact (xu_fresh (by assumption) (by assumption)).symm)).trans (by first | assumption | exact xu_s _ _ _ | exact (xu_n (by first | assumption | exact Ne.symm (by assumption) | exact xu_fresh (by assumption) (by assumption) | exact (xu_fresh (by assumption) (by assumption)).symm)).trans (by first | assumption | exact xu_s _ _ _ | exact (xu_n (by first | assumption | exact Ne.symm (by assumption) | exact xu_fresh (by assumption) (by assumption) | exact (xu_fresh (by assumption) (by assumption)).symm)).trans (by first | assumption | exact xu_s _ _ _)))) rfl ?_
      refine x_aload_n (M := mX14_carryOut) (pc := 9) dX14_carryOut_9 rfl ?_
      refine x_get (M := mX14_carryOut) (pc := 10) kcX14 2 rfl q1415 dX14_carryOut_10 (by first | assumption | exact xu_s _ _ _ | exact (xu_n (by first | assumption | exact Ne.symm (by assumption) | exact xu_fresh (by assumption) (by assumption) | exact (xu_fresh (by assumption) (by assumption)).symm)).trans (by first | assumption | exact xu_s _ _ _ | exact (xu_n (by first | assumption | exact Ne.symm (by assumption) | exact xu_fresh (by assumption) (by assumption) | exact (xu_fresh (by assumption) (by assumption)).symm)).trans (by first | assumption | exact xu_s _ _ _ | exact (xu_n (by first | assumption | exact Ne.symm (by assumption) | exact xu_fresh (by assumption) (by assumption) | exact (xu_fresh (by assumption) (by assumption)).symm)).trans (by first | assumption | exact xu_s _ _ _)))) rfl ?_
      refine x_V3 (M := mX14_carryOut) (pc := 13) (M' := mX2_sideOf) q1258 kVX2_sideOf dX14_carryOut_13 (c_sideOfS h sh (d - 1) a b c P s hS.1) (hS.is) (fun v_ h hq_ => ?_)
      obtain ⟨hv_, rfl⟩ := hq_; cases hv_
      rotate_left
      rw [← hat_]
      refine x_istore2 (M := mX14_carryOut) (pc := 16) dX14_carryOut_16 ?_
      refine x_aload_n (M := mX14_carryOut) (pc := 17) dX14_carryOut_17 rfl ?_
      refine x_getN (M := mX14_carryOut) (pc := 18) kcX2 4 rfl q228 dX14_carryOut_18 (by first | assumption | exact xu_s _ _ _ | exact (xu_n (by first | assumption | exact Ne.symm (by assumption) | exact xu_fresh (by assumption) (by assumption) | exact (xu_fresh (by assumption) (by assumption)).symm)).trans (by first | assumption | exact xu_s _ _ _ | exact (xu_n (by first | assumption | exact Ne.symm (by assumption) | exact xu_fresh (by assumption) (by assumption) | exact (xu_fresh (by assumption) (by assumption)).symm)).trans (by first | assumption | exact xu_s _ _ _ | exact (xu_n (by first | assumption | exact Ne.symm (by assumption) | exact xu_fresh (by assumption) (by assumption) | exact (xu_fresh (by assumption) (by assumption)).symm)).trans (by first | assumption | exact xu_s _ _ _)))) rfl ?_
      refine x_iload_n (M := mX14_carryOut) (pc := 21) dX14_carryOut_21 rfl ?_
      refine x_ialdN (M := mX14_carryOut) (pc := 22) _ dX14_carryOut_22 (by first | assumption | exact xu_s _ _ _ | exact (xu_n (by first | assumption | exact Ne.symm (by assumption) | exact xu_fresh (by assumption) (by assumption) | exact (xu_fresh (by assumption) (by assumption)).symm)).trans (by first | assumption | exact xu_s _ _ _ | exact (xu_n (by first | assumption | exact Ne.symm (by assumption) | exact xu_fresh (by assumption) (by assumption) | exact (xu_fresh (by assumption) (by assumption)).symm)).trans (by first | assumption | exact xu_s _ _ _ | exact (xu_n (by first | assumption | exact Ne.symm (by assumption) | exact xu_fresh (by assumption) (by assumption) | exact (xu_fresh (by assumption) (by assumption)).symm)).trans (by first | assumption | exact xu_s _ _ _)))) (by first | rfl | assumption) (by first | assumption | omega) (by first | decide | omega) ?_
      refine x_val (M := mX14_carryOut) (pc := 23) (e1) ?_
      refine x_istore3 (M := mX14_carryOut) (pc := 23) dX14_carryOut_23 ?_
      refine x_aload_n (M := mX14_carryOut) (pc := 24) dX14_carryOut_24 rfl ?_
      refine x_iload_n (M := mX14_carryOut) (pc := 25) dX14_carryOut_25 rfl ?_
      refine x_joinV 43 (zNone w) (fun J => ?_) ?_
      · refine x_aload_n (M := mX14_carryOut) (pc := 26) dX14_carryOut_26 rfl ?_
        refine x_get (M := mX14_carryOut) (pc := 27) kcX14 3 rfl q1416 dX14_carryOut_27 (by first | assumption | exact xu_s _ _ _ | exact (xu_n (by first | assumption | exact Ne.symm (by assumption) | exact xu_fresh (by assumption) (by assumption) | exact (xu_fresh (by assumption) (by assumption)).symm)).trans (by first | assumption | exact xu_s _ _ _ | exact (xu_n (by first | assumption | exact Ne.symm (by assumption) | exact xu_fresh (by assumption) (by assumption) | exact (xu_fresh (by assumption) (by assumption)).symm)).trans (by first | assumption | exact xu_s _ _ _ | exact (xu_n (by first | assumption | exact Ne.symm (by assumption) | exact xu_fresh (by assumption) (by assumption) | exact (xu_fresh (by assumption) (by assumption)).symm)).trans (by first | assumption | exact xu_s _ _ _)))) rfl ?_
        refine x_iconst (M := mX14_carryOut) (pc := 30) (v := (-1)) dX14_carryOut_30 (by decide) ?_
        refine x_icmp_ne (M := mX14_carryOut) (pc := 31) 39 dX14_carryOut_31 (by decide) (fun r_a => ?_) (fun r_a => ?_)
        · refine x_aload_n (M := mX14_carryOut) (pc := 39) dX14_carryOut_39 rfl ?_
          refine x_get (M := mX14_carryOut) (pc := 40) kcX14 3 rfl q1416 dX14_carryOut_40 (by first | assumption | exact xu_s _ _ _ | exact (xu_n (by first | assumption | exact Ne.symm (by assumption) | exact xu_fresh (by assumption) (by assumption) | exact (xu_fresh (by assumption) (by assumption)).symm)).trans (by first | assumption | exact xu_s _ _ _ | exact (xu_n (by first | assumption | exact Ne.symm (by assumption) | exact xu_fresh (by assumption) (by assumption) | exact (xu_fresh (by assumption) (by assumption)).symm)).trans (by first | assumption | exact xu_s _ _ _ | exact (xu_n (by first | assumption | exact Ne.symm (by assumption) | exact xu_fresh (by assumption) (by assumption) | exact (xu_fresh (by assumption) (by assumption)).symm)).trans (by first | assumption | exact xu_s _ _ _)))) rfl ?_
          exact J _ (by first | exact hw1 r_a | exact hw2 r_a)
        · refine x_bipush (M := mX14_carryOut) (pc := 34) (v := (-9)) dX14_carryOut_34 (by decide) ?_
          refine x_goto (M := mX14_carryOut) (pc := 36) 43 dX14_carryOut_36 (by decide) ?_
          exact J _ (by first | exact hw1 r_a | exact hw2 r_a)
      refine x_joinV 64 (bI (decide (w ≠ -1) && tb)) (fun J => ?_) ?_
      · refine x_aload_n (M := mX14_carryOut) (pc := 43) dX14_carryOut_43 rfl ?_
        refine x_get (M := mX14_carryOut) (pc := 44) kcX14 3 rfl q1416 dX14_carryOut_44 (by first | assumption | exact xu_s _ _ _ | exact (xu_n (by first | assumption | exact Ne.symm (by assumption) | exact xu_fresh (by assumption) (by assumption) | exact (xu_fresh (by assumption) (by assumption)).symm)).trans (by first | assumption | exact xu_s _ _ _ | exact (xu_n (by first | assumption | exact Ne.symm (by assumption) | exact xu_fresh (by assumption) (by assumption) | exact (xu_fresh (by assumption) (by assumption)).symm)).trans (by first | assumption | exact xu_s _ _ _ | exact (xu_n (by first | assumption | exact Ne.symm (by assumption) | exact xu_fresh (by assumption) (by assumption) | exact (xu_fresh (by assumption) (by assumption)).symm)).trans (by first | assumption | exact xu_s _ _ _)))) rfl ?_
        refine x_iconst (M := mX14_carryOut) (pc := 47) (v := (-1)) dX14_carryOut_47 (by decide) ?_
        refine x_icmp_eq (M := mX14_carryOut) (pc := 48) 63 dX14_carryOut_48 (by decide) (fun r_b => ?_) (fun r_b => ?_)
        · refine x_iconst (M := mX14_carryOut) (pc := 63) (v := nI 0) dX14_carryOut_63 (by decide) ?_
          exact J _ (by first | exact pt1 r_b | exact pt2 r_b (hi1.mp r_c) | exact pt3 (hi0 r_c))
        · refine x_aload_n (M := mX14_carryOut) (pc := 51) dX14_carryOut_51 rfl ?_
          refine x_get (M := mX14_carryOut) (pc := 52) kcX14 4 rfl q1417 dX14_carryOut_52 (by first | assumption | exact xu_s _ _ _ | exact (xu_n (by first | assumption | exact Ne.symm (by assumption) | exact xu_fresh (by assumption) (by assumption) | exact (xu_fresh (by assumption) (by assumption)).symm)).trans (by first | assumption | exact xu_s _ _ _ | exact (xu_n (by first | assumption | exact Ne.symm (by assumption) | exact xu_fresh (by assumption) (by assumption) | exact (xu_fresh (by assumption) (by assumption)).symm)).trans (by first | assumption | exact xu_s _ _ _ | exact (xu_n (by first | assumption | exact Ne.symm (by assumption) | exact xu_fresh (by assumption) (by assumption) | exact (xu_fresh (by assumption) (by assumption)).symm)).trans (by first | assumption | exact xu_s _ _ _)))) rfl ?_
          refine x_iconst (M := mX14_carryOut) (pc := 55) (v := nI 1) dX14_carryOut_55 (by decide) ?_
          refine x_icmp_ne (M := mX14_carryOut) (pc := 56) 63 dX14_carryOut_56 (by decide) (fun r_c => ?_) (fun r_c => ?_)
          · refine x_iconst (M := mX14_carryOut) (pc := 63) (v := nI 0) dX14_carryOut_63 (by decide) ?_
            exact J _ (by first | exact pt1 r_b | exact pt2 r_b (hi1.mp r_c) | exact pt3 (hi0 r_c))
          · refine x_iconst (M := mX14_carryOut) (pc := 59) (v := nI 1) dX14_carryOut_59 (by decide) ?_
            refine x_goto (M := mX14_carryOut) (pc := 60) 64 dX14_carryOut_60 (by decide) ?_
            exact J _ (by first | exact pt1 r_b | exact pt2 r_b (hi1.mp r_c) | exact pt3 (hi0 r_c))
      refine x_V3 (M := mX14_carryOut) (pc := 64) (M' := mX2_print) q1262 kVX2_print dX14_carryOut_64 (c64) (hS.is) (fun v_ h hq_ => ?_)
      obtain ⟨hv_, z1, z2⟩ := hq_; cases hv_
      refine x_pop (M := mX14_carryOut) (pc := 67) dX14_carryOut_67 ?_
      refine x_iload_n (M := mX14_carryOut) (pc := 68) dX14_carryOut_68 rfl ?_
      refine x_iret (M := mX14_carryOut) (pc := 69) dX14_carryOut_69 rfl (by first | exact Nat.le_of_ble_eq_true rfl | omega) (by first | exact Nat.le_of_ble_eq_true rfl | omega) ?_
      exact ⟨rfl, ⟨P, xs, ys, z1, hO.on⟩, xl3.own hS hO z2⟩
end CARRY4

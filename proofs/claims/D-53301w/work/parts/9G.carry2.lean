/-! commands: carried out (2) -/
section CARRY2
set_option maxRecDepth 100000
variable {g : xG} {l : Launch} {h h0 h' : xH}
/-- a list's change is O's -/
theorem xlO.al {O : Nat → Prop} {a arr : Nat} {xs : List Nat} (hA : AL g h a arr xs) (hx : h (xca g 0 0) = none) (h1 : O a) (h2 : arr = xca g 0 0 ∨ O arr) (hl : xle2 a arr h h') : xlO O h h' := fun p e z w => by
  obtain ⟨m, c, f, q⟩ := hA
  refine hl p e (fun y => ?_) (fun y => ?_) z
  · subst y; rw [q.1] at z; cases z
    rcases w with w | w
    · exact w h1
    · cases w
  · rcases q.2.1 with r | ⟨r, -⟩
    · subst y; rw [r] at z; cases z
      rcases w with w | w
      · rcases h2 with y | y
        · rw [y, hx] at r; cases r
        · exact w y
      · cases w
    · rw [y, r, hx] at z; cases z
theorem own.up6 {O : Nat → Prop} {sh ar : Nat} {P : Nat → Nat} (hO : own g O sh P) (har : ar = P 6 ∨ h ar = none) : own g (ON O h) sh (va_up P 6 ar) := by
  refine ⟨Or.inl hO.1, fun i hi => Or.inl (by rw [va_up_n _ _ (by omega)]; exact hO.2.1 i hi), ?_, by rw [va_up_n _ _ (by omega)]; exact hO.2.2.2.imp id Or.inl⟩
  rw [va_up_s]
  rcases har with rfl | w
  · exact hO.2.2.1.imp id Or.inl
  · exact Or.inr (Or.inr w)
theorem own.up7 {O : Nat → Prop} {sh ar : Nat} {P : Nat → Nat} (hO : own g O sh P) (har : ar = P 7 ∨ h ar = none) : own g (ON O h) sh (va_up P 7 ar) := by
  refine ⟨Or.inl hO.1, fun i hi => Or.inl (by rw [va_up_n _ _ (by omega)]; exact hO.2.1 i hi), by rw [va_up_n _ _ (by omega)]; exact hO.2.2.1.imp id Or.inl, ?_⟩
  rw [va_up_s]
  rcases har with rfl | w
  · exact hO.2.2.2.imp id Or.inl
  · exact Or.inr (Or.inr w)
theorem cy_forget (hh : xH) (cm sh d : Nat) (hd : 1 ≤ d) (O : Nat → Prop) (s : Row) (hW : WF s) (v : Int32) (s' : Row) (hr : c_forget s = .inr (v, s')) (hS : SH g hh O sh s) : Ct g l mX21_carryOut d 0 0 [.ref cm, .ref sh] hh (fun o h' => o = .inl (some (.int v)) ∧ RS g O hh sh s' h') := by
  obtain ⟨P, xs, ys, hS, hO⟩ := hS
  cases hr
  have hsh := hS.1
  obtain ⟨A1, A2, A3⟩ := hS.2.2.2.2.2.1
  unfold shE at hsh
  refine Ct.of [some (.ref cm), some (.ref sh), none] (by decide +kernel) rfl (Nat.le_of_ble_eq_true rfl) rfl rfl ?_
  refine x_cst (M := mX21_carryOut) (pc := 0) (fun _ _ _ hx0 => ?_)
  refine x_aload_n (M := mX21_carryOut) (pc := 0) dX21_carryOut_0 rfl ?_
  refine x_getN (M := mX21_carryOut) (pc := 1) kcX2 11 rfl q260 dX21_carryOut_1 (by first | assumption | exact xu_s _ _ _ | exact (xu_n (by first | assumption | exact Ne.symm (by assumption) | exact xu_fresh (by assumption) (by assumption) | exact (xu_fresh (by assumption) (by assumption)).symm)).trans (by first | assumption | exact xu_s _ _ _ | exact (xu_n (by first | assumption | exact Ne.symm (by assumption) | exact xu_fresh (by assumption) (by assumption) | exact (xu_fresh (by assumption) (by assumption)).symm)).trans (by first | assumption | exact xu_s _ _ _ | exact (xu_n (by first | assumption | exact Ne.symm (by assumption) | exact xu_fresh (by assumption) (by assumption) | exact (xu_fresh (by assumption) (by assumption)).symm)).trans (by first | assumption | exact xu_s _ _ _)))) rfl ?_
  refine x_V0 (M := mX21_carryOut) (pc := 4) (M' := mJ2_size) q1230 kVJ2_size dX21_carryOut_4 (j_size hh _ _ (d - 1) xs A1) (A1.is) (fun v_ h1 hq_ => ?_)
  obtain ⟨hv_, he_⟩ := hq_; cases hv_; subst he_
  refine x_istore2 (M := mX21_carryOut) (pc := 7) dX21_carryOut_7 ?_
  refine x_aload_n (M := mX21_carryOut) (pc := 8) dX21_carryOut_8 rfl ?_
  refine x_getN (M := mX21_carryOut) (pc := 9) kcX2 11 rfl q260 dX21_carryOut_9 (by first | assumption | exact xu_s _ _ _ | exact (xu_n (by first | assumption | exact Ne.symm (by assumption) | exact xu_fresh (by assumption) (by assumption) | exact (xu_fresh (by assumption) (by assumption)).symm)).trans (by first | assumption | exact xu_s _ _ _ | exact (xu_n (by first | assumption | exact Ne.symm (by assumption) | exact xu_fresh (by assumption) (by assumption) | exact (xu_fresh (by assumption) (by assumption)).symm)).trans (by first | assumption | exact xu_s _ _ _ | exact (xu_n (by first | assumption | exact Ne.symm (by assumption) | exact xu_fresh (by assumption) (by assumption) | exact (xu_fresh (by assumption) (by assumption)).symm)).trans (by first | assumption | exact xu_s _ _ _)))) rfl ?_
  refine x_V0 (M := mX21_carryOut) (pc := 12) (M' := mJ2_clear) q1231 kVJ2_clear dX21_carryOut_12 (j_clear h1 _ _ (d - 1) xs A1) (A1.is) (fun v_ h2 hq_ => ?_)
  obtain ⟨hv_, w1, w2⟩ := hq_; cases hv_
  refine x_iload_n (M := mX21_carryOut) (pc := 15) dX21_carryOut_15 rfl ?_
  refine x_iret (M := mX21_carryOut) (pc := 16) dX21_carryOut_16 rfl (by first | exact Nat.le_of_ble_eq_true rfl | omega) (by first | exact Nat.le_of_ble_eq_true rfl | omega) ?_
  have e12 : zN (upd s 12 0) 12 = 0 := zN_us (n := 0) (by omega)
  refine ⟨by rw [A2, ← hW.p12.1.1], ⟨va_up P 6 (P 6), [], ys, hS.si (s' := upd s 12 0) hW.nb hx0 w2 ⟨w1, by rw [e12]; rfl, fun k hk => absurd hk (by rw [e12]; omega)⟩ (Or.inl rfl) (fun k hk => upd_n _ _ (by omega)), hO.up6 (Or.inl rfl)⟩, xlO.al A1 hx0 (hO.2.1 3 (by omega)) hO.2.2.1 w2⟩
theorem cy_setSheet (hh : xH) (cm sh d : Nat) (hd : 2 ≤ d) (O : Nat → Prop) (s : Row) (hW : WF s) (x y v : Int32) (s' : Row) (hr : c_setSheet s x y = .inr (v, s')) (hS : SH g hh O sh s) (hc : hh cm = some (.inr (4, [.int x, .int y]))) : Ct g l mX4_carryOut d 0 0 [.ref cm, .ref sh] hh (fun o h' => o = .inl (some (.int v)) ∧ RS g O hh sh s' h') := by
  obtain ⟨P, xs, ys, hS, hO⟩ := hS
  unfold c_setSheet at hr
  split at hr
  · next q0 =>
    cases hr
    rw [Bool.and_eq_true] at q0
    obtain ⟨a, rfl, ha⟩ := isSz_n q0.1
    obtain ⟨b, rfl, hb⟩ := isSz_n q0.2
    have hsh := hS.1
    unfold shE at hsh
    have hne : cm ≠ sh := fun z => by rw [z, hsh] at hc; cases hc
    have q1 := hS.scL (s' := upd (upd (upd (upd (upd s 0 (nI a)) 1 (nI b)) 2 0) 8 0) 9 0) (a0 := a) (a1 := b) (a2 := 0) (a7 := zN s 7) (a8 := 0) (a9 := 0) (a10 := zN s 10) (a11 := zN s 11) hW.nb (fun k hk => by rw [upd_n _ _ (by omega), upd_n _ _ (by omega), upd_n _ _ (by omega), upd_n _ _ (by omega), upd_n _ _ (by omega)])
      (by rw [zN_u (by omega), zN_u (by omega), zN_u (by omega), zN_u (by omega)]; exact zN_us (by omega)) (by rw [zN_u (by omega), zN_u (by omega), zN_u (by omega)]; exact zN_us (by omega)) (by rw [zN_u (by omega), zN_u (by omega)]; exact zN_us (n := 0) (by omega)) (by rw [zN_u (by omega), zN_u (by omega), zN_u (by omega), zN_u (by omega), zN_u (by omega)]) (by rw [zN_u (by omega)]; exact zN_us (n := 0) (by omega)) (zN_us (n := 0) (by omega)) (by rw [zN_u (by omega), zN_u (by omega), zN_u (by omega), zN_u (by omega), zN_u (by omega)]) (by rw [zN_u (by omega), zN_u (by omega), zN_u (by omega), zN_u (by omega), zN_u (by omega)])
    have nb1 : zN (upd (upd (upd (upd (upd s 0 (nI a)) 1 (nI b)) 2 0) 8 0) 9 0) 12 ≤ 8 ∧ zN (upd (upd (upd (upd (upd s 0 (nI a)) 1 (nI b)) 2 0) 8 0) 9 0) 37 ≤ 12 := nb_u (nb_u (nb_u (nb_u (nb_u hW.nb (by omega) (by omega)) (by omega) (by omega)) (by omega) (by omega)) (by omega) (by omega)) (by omega) (by omega)
    generalize hs1 : upd (upd (upd (upd (upd s 0 (nI a)) 1 (nI b)) 2 0) 8 0) 9 0 = s1 at q1 nb1 ⊢
    have hl1 : xlO O hh (xu hh sh (shL P a b 0 (zN s 7) 0 0 (zN s 10) (zN s 11))) := xlO.up hO.1 hS.1 rfl
    refine Ct.of [some (.ref cm), some (.ref sh)] (by decide +kernel) rfl (Nat.le_of_ble_eq_true rfl) rfl rfl ?_
    refine x_aload_n (M := mX4_carryOut) (pc := 0) dX4_carryOut_0 rfl ?_
    refine x_aload_n (M := mX4_carryOut) (pc := 1) dX4_carryOut_1 rfl ?_
    refine x_get (M := mX4_carryOut) (pc := 2) kcX4 0 rfl q391 dX4_carryOut_2 (by first | assumption | exact xu_s _ _ _ | exact (xu_n (by first | assumption | exact Ne.symm (by assumption) | exact xu_fresh (by assumption) (by assumption) | exact (xu_fresh (by assumption) (by assumption)).symm)).trans (by first | assumption | exact xu_s _ _ _ | exact (xu_n (by first | assumption | exact Ne.symm (by assumption) | exact xu_fresh (by assumption) (by assumption) | exact (xu_fresh (by assumption) (by assumption)).symm)).trans (by first | assumption | exact xu_s _ _ _ | exact (xu_n (by first | assumption | exact Ne.symm (by assumption) | exact xu_fresh (by assumption) (by assumption) | exact (xu_fresh (by assumption) (by assumption)).symm)).trans (by first | assumption | exact xu_s _ _ _)))) rfl ?_
    refine x_putN0 (M := mX4_carryOut) (pc := 5) kcX2 q212 dX4_carryOut_5 (by first | assumption | exact xu_s _ _ _ | exact (xu_n (by first | assumption | exact Ne.symm (by assumption) | exact xu_fresh (by assumption) (by assumption) | exact (xu_fresh (by assumption) (by assumption)).symm)).trans (by first | assumption | exact xu_s _ _ _ | exact (xu_n (by first | assumption | exact Ne.symm (by assumption) | exact xu_fresh (by assumption) (by assumption) | exact (xu_fresh (by assumption) (by assumption)).symm)).trans (by first | assumption | exact xu_s _ _ _ | exact (xu_n (by first | assumption | exact Ne.symm (by assumption) | exact xu_fresh (by assumption) (by assumption) | exact (xu_fresh (by assumption) (by assumption)).symm)).trans (by first | assumption | exact xu_s _ _ _)))) ?_
    refine x_aload_n (M := mX4_carryOut) (pc := 8) dX4_carryOut_8 rfl ?_
    refine x_aload_n (M := mX4_carryOut) (pc := 9) dX4_carryOut_9 rfl ?_
    refine x_get (M := mX4_carryOut) (pc := 10) kcX4 1 rfl q392 dX4_carryOut_10 (by first | assumption | exact xu_s _ _ _ | exact (xu_n (by first | assumption | exact Ne.symm (by assumption) | exact xu_fresh (by assumption) (by assumption) | exact (xu_fresh (by assumption) (by assumption)).symm)).trans (by first | assumption | exact xu_s _ _ _ | exact (xu_n (by first | assumption | exact Ne.symm (by assumption) | exact xu_fresh (by assumption) (by assumption) | exact (xu_fresh (by assumption) (by assumption)).symm)).trans (by first | assumption | exact xu_s _ _ _ | exact (xu_n (by first | assumption | exact Ne.symm (by assumption) | exact xu_fresh (by assumption) (by assumption) | exact (xu_fresh (by assumption) (by assumption)).symm)).trans (by first | assumption | exact xu_s _ _ _)))) rfl ?_
    refine x_putN1 (M := mX4_carryOut) (pc := 13) kcX2 q216 dX4_carryOut_13 (by first | assumption | exact xu_s _ _ _ | exact (xu_n (by first | assumption | exact Ne.symm (by assumption) | exact xu_fresh (by assumption) (by assumption) | exact (xu_fresh (by assumption) (by assumption)).symm)).trans (by first | assumption | exact xu_s _ _ _ | exact (xu_n (by first | assumption | exact Ne.symm (by assumption) | exact xu_fresh (by assumption) (by assumption) | exact (xu_fresh (by assumption) (by assumption)).symm)).trans (by first | assumption | exact xu_s _ _ _ | exact (xu_n (by first | assumption | exact Ne.symm (by assumption) | exact xu_fresh (by assumption) (by assumption) | exact (xu_fresh (by assumption) (by assumption)).symm)).trans (by first | assumption | exact xu_s _ _ _)))) ?_
    refine x_aload_n (M := mX4_carryOut) (pc := 16) dX4_carryOut_16 rfl ?_
    refine x_iconst (M := mX4_carryOut) (pc := 17) (v := nI 0) dX4_carryOut_17 (by decide) ?_
    refine x_putN3 (M := mX4_carryOut) (pc := 18) kcX2 q225 dX4_carryOut_18 (by first | assumption | exact xu_s _ _ _ | exact (xu_n (by first | assumption | exact Ne.symm (by assumption) | exact xu_fresh (by assumption) (by assumption) | exact (xu_fresh (by assumption) (by assumption)).symm)).trans (by first | assumption | exact xu_s _ _ _ | exact (xu_n (by first | assumption | exact Ne.symm (by assumption) | exact xu_fresh (by assumption) (by assumption) | exact (xu_fresh (by assumption) (by assumption)).symm)).trans (by first | assumption | exact xu_s _ _ _ | exact (xu_n (by first | assumption | exact Ne.symm (by assumption) | exact xu_fresh (by assumption) (by assumption) | exact (xu_fresh (by assumption) (by assumption)).symm)).trans (by first | assumption | exact xu_s _ _ _)))) ?_
    refine x_aload_n (M := mX4_carryOut) (pc := 21) dX4_carryOut_21 rfl ?_
    refine x_iconst (M := mX4_carryOut) (pc := 22) (v := nI 0) dX4_carryOut_22 (by decide) ?_
    refine x_putN7 (M := mX4_carryOut) (pc := 23) kcX2 q241 dX4_carryOut_23 (by first | assumption | exact xu_s _ _ _ | exact (xu_n (by first | assumption | exact Ne.symm (by assumption) | exact xu_fresh (by assumption) (by assumption) | exact (xu_fresh (by assumption) (by assumption)).symm)).trans (by first | assumption | exact xu_s _ _ _ | exact (xu_n (by first | assumption | exact Ne.symm (by assumption) | exact xu_fresh (by assumption) (by assumption) | exact (xu_fresh (by assumption) (by assumption)).symm)).trans (by first | assumption | exact xu_s _ _ _ | exact (xu_n (by first | assumption | exact Ne.symm (by assumption) | exact xu_fresh (by assumption) (by assumption) | exact (xu_fresh (by assumption) (by assumption)).symm)).trans (by first | assumption | exact xu_s _ _ _)))) ?_
    refine x_aload_n (M := mX4_carryOut) (pc := 26) dX4_carryOut_26 rfl ?_
    refine x_iconst (M := mX4_carryOut) (pc := 27) (v := nI 0) dX4_carryOut_27 (by decide) ?_
    refine x_putN8 (M := mX4_carryOut) (pc := 28) kcX2 q247 dX4_carryOut_28 (by first | assumption | exact xu_s _ _ _ | exact (xu_n (by first | assumption | exact Ne.symm (by assumption) | exact xu_fresh (by assumption) (by assumption) | exact (xu_fresh (by assumption) (by assumption)).symm)).trans (by first | assumption | exact xu_s _ _ _ | exact (xu_n (by first | assumption | exact Ne.symm (by assumption) | exact xu_fresh (by assumption) (by assumption) | exact (xu_fresh (by assumption) (by assumption)).symm)).trans (by first | assumption | exact xu_s _ _ _ | exact (xu_n (by first | assumption | exact Ne.symm (by assumption) | exact xu_fresh (by assumption) (by assumption) | exact (xu_fresh (by assumption) (by assumption)).symm)).trans (by first | assumption | exact xu_s _ _ _)))) ?_
    rw [xu_xu, xu_xu, xu_xu, xu_xu]
    refine x_aload_n (M := mX4_carryOut) (pc := 31) dX4_carryOut_31 rfl ?_
    refine x_V0 (M := mX4_carryOut) (pc := 32) (M' := mX2_blank) q1250 kVX2_blank dX4_carryOut_32 (c_blank _ sh (d - 1) P s1 xs ys nb1 q1) (q1.is) (fun v_ h hq_ => ?_)
    obtain ⟨hv_, q2, w2⟩ := hq_; cases hv_
    rotate_left
    refine x_cst (M := mX4_carryOut) (pc := 35) (fun _ _ _ hx0 => ?_)
    have hsh2 := q2.1
    have nb2 : zN (p_noPrint 32 s1) 12 ≤ 8 ∧ zN (p_noPrint 32 s1) 37 ≤ 12 := by rw [zN_c (noPr_n s1 (by omega)), zN_c (noPr_n s1 (by omega))]; exact nb1
    obtain ⟨A1, A2, A3⟩ := q2.2.2.2.2.2.1
    unfold shE at hsh2
    refine x_aload_n (M := mX4_carryOut) (pc := 35) dX4_carryOut_35 rfl ?_
    refine x_getN (M := mX4_carryOut) (pc := 36) kcX2 11 rfl q261 dX4_carryOut_36 (by first | assumption | exact xu_s _ _ _ | exact (xu_n (by first | assumption | exact Ne.symm (by assumption) | exact xu_fresh (by assumption) (by assumption) | exact (xu_fresh (by assumption) (by assumption)).symm)).trans (by first | assumption | exact xu_s _ _ _ | exact (xu_n (by first | assumption | exact Ne.symm (by assumption) | exact xu_fresh (by assumption) (by assumption) | exact (xu_fresh (by assumption) (by assumption)).symm)).trans (by first | assumption | exact xu_s _ _ _ | exact (xu_n (by first | assumption | exact Ne.symm (by assumption) | exact xu_fresh (by assumption) (by assumption) | exact (xu_fresh (by assumption) (by assumption)).symm)).trans (by first | assumption | exact xu_s _ _ _)))) rfl ?_
    refine x_V0 (M := mX4_carryOut) (pc := 39) (M' := mJ2_clear) q1251 kVJ2_clear dX4_carryOut_39 (j_clear h _ _ (d - 1) xs A1) (A1.is) (fun v_ h2 hq_ => ?_)
    obtain ⟨hv_, y1, y2⟩ := hq_; cases hv_
    have e12 : zN (p_noPrint 32 (upd s1 12 0)) 12 = 0 := by rw [zN_c (noPr_n _ (by omega))]; exact zN_us (n := 0) (by omega)
    have q3 := q2.si (s' := p_noPrint 32 (upd s1 12 0)) nb2 hx0 y2 ⟨y1, by rw [e12]; rfl, fun k hk => absurd hk (by rw [e12]; omega)⟩ (Or.inl rfl) (fun k hk => by unfold p_noPrint; rw [upd_n _ _ (by omega)])
    have e0 : zHi (p_noPrint 32 (upd s1 12 0)) = a ∧ zWi (p_noPrint 32 (upd s1 12 0)) = b := by
      unfold zHi zWi
      rw [zN_c (noPr_n _ (by omega)), zN_c (noPr_n _ (by omega)), zN_u (by omega), zN_u (by omega), ← hs1]
      exact ⟨by rw [zN_u (by omega), zN_u (by omega), zN_u (by omega), zN_u (by omega)]; exact zN_us (by omega), by rw [zN_u (by omega), zN_u (by omega), zN_u (by omega)]; exact zN_us (by omega)⟩
    have c43 := c_cells (g := g) (l := l) h2 sh (d - 1) _ _ q3.1
    rw [e0.1, e0.2] at c43
    have hl2 : xlO O (xu hh sh (shL P a b 0 (zN s 7) 0 0 (zN s 10) (zN s 11))) h := by
      obtain ⟨-, -, ⟨f3, h3, -⟩, ⟨f4, h4, -⟩, -⟩ := q1
      intro p e z w
      refine w2 p e (fun t => ?_) (fun t => ?_) z
      · subst t; rw [h3] at z; cases z
        rcases w with w | w
        · exact w (hO.2.1 1 (by omega))
        · cases w
      · subst t; rw [h4] at z; cases z
        rcases w with w | w
        · exact w (hO.2.1 2 (by omega))
        · cases w
    refine x_aload_n (M := mX4_carryOut) (pc := 42) dX4_carryOut_42 rfl ?_
    refine x_V0 (M := mX4_carryOut) (pc := 43) (M' := mX2_cells) q1252 kVX2_cells dX4_carryOut_43 (c43) (q3.is) (fun v_ h3 hq_ => ?_)
    obtain ⟨hv_, he_⟩ := hq_; cases hv_; subst he_
    refine x_iret (M := mX4_carryOut) (pc := 46) dX4_carryOut_46 rfl (by first | exact Nat.le_of_ble_eq_true rfl | omega) (by first | exact Nat.le_of_ble_eq_true rfl | omega) ?_
    exact ⟨by rw [pk_mul], ⟨_, _, _, q3, hO.up6 (Or.inl rfl)⟩, (hl1.tr hl2).tr (xlO.al A1 hx0 (hO.2.1 3 (by omega)) hO.2.2.1 y2)⟩
  · cases hr
end CARRY2

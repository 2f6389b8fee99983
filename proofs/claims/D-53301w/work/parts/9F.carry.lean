/-! commands: carried out -/
section CARRY
set_option maxRecDepth 100000
variable {g : xG} {l : Launch} {h h0 h' : xH}
/-- Sights and Notes: cells that never change -/
def isSN (e : va_E) : Bool := match e with
  | .inr (c, _) => c == 10 || c == 7
  | _ => false
/-- only cells that O owns are changed -/
def xlO (O : Nat → Prop) (h h' : xH) : Prop := ∀ a e, h a = some e → (¬ O a ∨ isSN e = true) → h' a = some e
theorem xlO.rf {O : Nat → Prop} : xlO O h h := fun _ _ z _ => z
theorem xlO.tr {O : Nat → Prop} {h1 h2 : xH} (a : xlO O h h1) (b : xlO O h1 h2) : xlO O h h2 := fun q e z w => b q e (a q e z w) w
theorem xlO.le {O : Nat → Prop} (hl : xle h h') : xlO O h h' := fun a e z _ => hl a e z
theorem xlO.up {O : Nat → Prop} {c : Nat} {e0 e' : va_E} (hO : O c) (hc : h c = some e0) (hs : isSN e0 = false) : xlO O h (xu h c e') := fun a e z w => by
  by_cases q : a = c
  · subst q
    rw [hc] at z; cases z
    rcases w with w | w
    · exact absurd hO w
    · rw [hs] at w; cases w
  · exact (xu_n q).trans z
def own (g : xG) (O : Nat → Prop) (sh : Nat) (P : Nat → Nat) : Prop := O sh ∧ (∀ i, i < 6 → O (P i)) ∧ (P 6 = xca g 0 0 ∨ O (P 6)) ∧ (P 7 = xca g 0 0 ∨ O (P 7))
abbrev ON (O : Nat → Prop) (h : xH) : Nat → Prop := fun a => O a ∨ h a = none
theorem own.on {O : Nat → Prop} {sh : Nat} {P : Nat → Nat} (hO : own g O sh P) : own g (ON O h) sh P := ⟨Or.inl hO.1, fun i hi => Or.inl (hO.2.1 i hi), hO.2.2.1.imp id Or.inl, hO.2.2.2.imp id Or.inl⟩
/-- the sheet at sh is the row s; its cells are O's -/
def SH (g : xG) (h : xH) (O : Nat → Prop) (sh : Nat) (s : Row) : Prop := ∃ P xs ys, SHP g h sh P s xs ys ∧ own g O sh P
def RS (g : xG) (O : Nat → Prop) (h : xH) (sh : Nat) (s' : Row) (h' : xH) : Prop := SH g h' (ON O h) sh s' ∧ xlO O h h'
def shL (P : Nat → Nat) (a0 a1 a2 a7 a8 a9 a10 a11 : Nat) : va_E := .inr (2, [.int (nI a0), .int (nI a1), .ref (P 0), .int (nI a2), .ref (P 1), .ref (P 2), .int (nI a7), .int (nI a8), .int (nI a9), .int (nI a10), .int (nI a11), .ref (P 3), .ref (P 4), .ref (P 5)])
theorem SHP.scL {sh : Nat} {P : Nat → Nat} {s s' : Row} {xs ys : List Nat} {a0 a1 a2 a7 a8 a9 a10 a11 : Nat} (hS : SHP g h sh P s xs ys) (hb : zN s 12 ≤ 8 ∧ zN s 37 ≤ 12) (hs : ∀ k, (3 ≤ k ∧ k ≤ 6) ∨ (12 ≤ k ∧ k < 154) → s' k = s k) (z0 : zN s' 0 = a0) (z1 : zN s' 1 = a1) (z2 : zN s' 2 = a2) (z7 : zN s' 7 = a7) (z8 : zN s' 8 = a8) (z9 : zN s' 9 = a9) (z10 : zN s' 10 = a10) (z11 : zN s' 11 = a11) : SHP g (xu h sh (shL P a0 a1 a2 a7 a8 a9 a10 a11)) sh P s' xs ys := by
  subst z0 z1 z2 z7 z8 z9 z10 z11
  exact hS.sc hb hs
theorem zN_us {s : Row} {k n : Nat} (hn : n < 2 ^ 31) : zN (upd s k (nI n)) k = n := zN_nI hn (upd_s _ _ _)
theorem snE (P : Nat → Nat) (s : Row) : isSN (shE P s) = false := rfl
theorem cy_legs (h : xH) (cm sh d : Nat) (O : Nat → Prop) (s : Row) (hW : WF s) (x v : Int32) (s' : Row) (hr : c_setLegs s x = .inr (v, s')) (hS : SH g h O sh s) (hc : h cm = some (.inr (18, [.int x]))) : Ct g l mX19_carryOut d 0 0 [.ref cm, .ref sh] h (fun o h' => o = .inl (some (.int v)) ∧ RS g O h sh s' h') := by
  obtain ⟨P, xs, ys, hS, hO⟩ := hS
  unfold c_setLegs at hr
  split at hr
  · cases hr
  · next q =>
    cases hr
    obtain ⟨n, rfl, -, hn⟩ := bIn_n (a := 1) (b := 16) (by omega) (by omega) (eq_true_of_ne_false q)
    have hsh := hS.1
    unfold shE at hsh
    have hne : cm ≠ sh := fun z => by rw [z, hsh] at hc; cases hc
    have q := hS.scL (s' := upd s 10 (nI n)) hW.nb (fun k hk => upd_n _ _ (by omega)) (zN_u (by omega)) (zN_u (by omega)) (zN_u (by omega)) (zN_u (by omega)) (zN_u (by omega)) (zN_u (by omega)) (zN_us (by omega)) (zN_u (by omega))
    refine Ct.of [some (.ref cm), some (.ref sh), none] (by decide +kernel) rfl (Nat.le_of_ble_eq_true rfl) rfl rfl ?_
    refine x_aload_n (M := mX19_carryOut) (pc := 0) dX19_carryOut_0 rfl ?_
    refine x_getN (M := mX19_carryOut) (pc := 1) kcX2 9 rfl q251 dX19_carryOut_1 (by first | assumption | exact xu_s _ _ _ | exact (xu_n (by first | assumption | exact Ne.symm (by assumption) | exact xu_fresh (by assumption) (by assumption) | exact (xu_fresh (by assumption) (by assumption)).symm)).trans (by first | assumption | exact xu_s _ _ _ | exact (xu_n (by first | assumption | exact Ne.symm (by assumption) | exact xu_fresh (by assumption) (by assumption) | exact (xu_fresh (by assumption) (by assumption)).symm)).trans (by first | assumption | exact xu_s _ _ _ | exact (xu_n (by first | assumption | exact Ne.symm (by assumption) | exact xu_fresh (by assumption) (by assumption) | exact (xu_fresh (by assumption) (by assumption)).symm)).trans (by first | assumption | exact xu_s _ _ _)))) rfl ?_
    refine x_istore2 (M := mX19_carryOut) (pc := 4) dX19_carryOut_4 ?_
    refine x_aload_n (M := mX19_carryOut) (pc := 5) dX19_carryOut_5 rfl ?_
    refine x_aload_n (M := mX19_carryOut) (pc := 6) dX19_carryOut_6 rfl ?_
    refine x_get (M := mX19_carryOut) (pc := 7) kcX19 0 rfl q1495 dX19_carryOut_7 (by first | assumption | exact xu_s _ _ _ | exact (xu_n (by first | assumption | exact Ne.symm (by assumption) | exact xu_fresh (by assumption) (by assumption) | exact (xu_fresh (by assumption) (by assumption)).symm)).trans (by first | assumption | exact xu_s _ _ _ | exact (xu_n (by first | assumption | exact Ne.symm (by assumption) | exact xu_fresh (by assumption) (by assumption) | exact (xu_fresh (by assumption) (by assumption)).symm)).trans (by first | assumption | exact xu_s _ _ _ | exact (xu_n (by first | assumption | exact Ne.symm (by assumption) | exact xu_fresh (by assumption) (by assumption) | exact (xu_fresh (by assumption) (by assumption)).symm)).trans (by first | assumption | exact xu_s _ _ _)))) rfl ?_
    refine x_putN9 (M := mX19_carryOut) (pc := 10) kcX2 q251 dX19_carryOut_10 (by first | assumption | exact xu_s _ _ _ | exact (xu_n (by first | assumption | exact Ne.symm (by assumption) | exact xu_fresh (by assumption) (by assumption) | exact (xu_fresh (by assumption) (by assumption)).symm)).trans (by first | assumption | exact xu_s _ _ _ | exact (xu_n (by first | assumption | exact Ne.symm (by assumption) | exact xu_fresh (by assumption) (by assumption) | exact (xu_fresh (by assumption) (by assumption)).symm)).trans (by first | assumption | exact xu_s _ _ _ | exact (xu_n (by first | assumption | exact Ne.symm (by assumption) | exact xu_fresh (by assumption) (by assumption) | exact (xu_fresh (by assumption) (by assumption)).symm)).trans (by first | assumption | exact xu_s _ _ _)))) ?_
    refine x_iload_n (M := mX19_carryOut) (pc := 13) dX19_carryOut_13 rfl ?_
    refine x_iret (M := mX19_carryOut) (pc := 14) dX19_carryOut_14 rfl (by first | exact Nat.le_of_ble_eq_true rfl | omega) (by first | exact Nat.le_of_ble_eq_true rfl | omega) ?_
    exact ⟨by rw [hW.p10.1], ⟨P, xs, ys, q, hO.on⟩, xlO.up hO.1 hS.1 rfl⟩
theorem cy_lines (h : xH) (cm sh d : Nat) (O : Nat → Prop) (s : Row) (hW : WF s) (x v : Int32) (s' : Row) (hr : c_setLines s x = .inr (v, s')) (hS : SH g h O sh s) (hc : h cm = some (.inr (22, [.int x]))) : Ct g l mX24_carryOut d 0 0 [.ref cm, .ref sh] h (fun o h' => o = .inl (some (.int v)) ∧ RS g O h sh s' h') := by
  obtain ⟨P, xs, ys, hS, hO⟩ := hS
  unfold c_setLines at hr
  split at hr
  · cases hr
  · next q =>
    cases hr
    obtain ⟨n, rfl, -, hn⟩ := bIn_n (a := 1) (b := 9) (by omega) (by omega) (eq_true_of_ne_false q)
    have hsh := hS.1
    unfold shE at hsh
    have hne : cm ≠ sh := fun z => by rw [z, hsh] at hc; cases hc
    have q := hS.scL (s' := upd s 11 (nI n)) hW.nb (fun k hk => upd_n _ _ (by omega)) (zN_u (by omega)) (zN_u (by omega)) (zN_u (by omega)) (zN_u (by omega)) (zN_u (by omega)) (zN_u (by omega)) (zN_u (by omega)) (zN_us (by omega))
    refine Ct.of [some (.ref cm), some (.ref sh), none] (by decide +kernel) rfl (Nat.le_of_ble_eq_true rfl) rfl rfl ?_
    refine x_aload_n (M := mX24_carryOut) (pc := 0) dX24_carryOut_0 rfl ?_
    refine x_getN (M := mX24_carryOut) (pc := 1) kcX2 10 rfl q256 dX24_carryOut_1 (by first | assumption | exact xu_s _ _ _ | exact (xu_n (by first | assumption | exact Ne.symm (by assumption) | exact xu_fresh (by assumption) (by assumption) | exact (xu_fresh (by assumption) (by assumption)).symm)).trans (by first | assumption | exact xu_s _ _ _ | exact (xu_n (by first | assumption | exact Ne.symm (by assumption) | exact xu_fresh (by assumption) (by assumption) | exact (xu_fresh (by assumption) (by assumption)).symm)).trans (by first | assumption | exact xu_s _ _ _ | exact (xu_n (by first | assumption | exact Ne.symm (by assumption) | exact xu_fresh (by assumption) (by assumption) | exact (xu_fresh (by assumption) (by assumption)).symm)).trans (by first | assumption | exact xu_s _ _ _)))) rfl ?_
    refine x_istore2 (M := mX24_carryOut) (pc := 4) dX24_carryOut_4 ?_
    refine x_aload_n (M := mX24_carryOut) (pc := 5) dX24_carryOut_5 rfl ?_
    refine x_aload_n (M := mX24_carryOut) (pc := 6) dX24_carryOut_6 rfl ?_
    refine x_get (M := mX24_carryOut) (pc := 7) kcX24 0 rfl q1577 dX24_carryOut_7 (by first | assumption | exact xu_s _ _ _ | exact (xu_n (by first | assumption | exact Ne.symm (by assumption) | exact xu_fresh (by assumption) (by assumption) | exact (xu_fresh (by assumption) (by assumption)).symm)).trans (by first | assumption | exact xu_s _ _ _ | exact (xu_n (by first | assumption | exact Ne.symm (by assumption) | exact xu_fresh (by assumption) (by assumption) | exact (xu_fresh (by assumption) (by assumption)).symm)).trans (by first | assumption | exact xu_s _ _ _ | exact (xu_n (by first | assumption | exact Ne.symm (by assumption) | exact xu_fresh (by assumption) (by assumption) | exact (xu_fresh (by assumption) (by assumption)).symm)).trans (by first | assumption | exact xu_s _ _ _)))) rfl ?_
    refine x_putN10 (M := mX24_carryOut) (pc := 10) kcX2 q256 dX24_carryOut_10 (by first | assumption | exact xu_s _ _ _ | exact (xu_n (by first | assumption | exact Ne.symm (by assumption) | exact xu_fresh (by assumption) (by assumption) | exact (xu_fresh (by assumption) (by assumption)).symm)).trans (by first | assumption | exact xu_s _ _ _ | exact (xu_n (by first | assumption | exact Ne.symm (by assumption) | exact xu_fresh (by assumption) (by assumption) | exact (xu_fresh (by assumption) (by assumption)).symm)).trans (by first | assumption | exact xu_s _ _ _ | exact (xu_n (by first | assumption | exact Ne.symm (by assumption) | exact xu_fresh (by assumption) (by assumption) | exact (xu_fresh (by assumption) (by assumption)).symm)).trans (by first | assumption | exact xu_s _ _ _)))) ?_
    refine x_iload_n (M := mX24_carryOut) (pc := 13) dX24_carryOut_13 rfl ?_
    refine x_iret (M := mX24_carryOut) (pc := 14) dX24_carryOut_14 rfl (by first | exact Nat.le_of_ble_eq_true rfl | omega) (by first | exact Nat.le_of_ble_eq_true rfl | omega) ?_
    exact ⟨by rw [hW.p11.1], ⟨P, xs, ys, q, hO.on⟩, xlO.up hO.1 hS.1 rfl⟩
theorem cy_spine (h : xH) (cm sh d : Nat) (O : Nat → Prop) (s : Row) (hW : WF s) (x v : Int32) (s' : Row) (hr : c_setSpine s x = .inr (v, s')) (hS : SH g h O sh s) (hc : h cm = some (.inr (12, [.int x]))) : Ct g l mX13_carryOut d 0 0 [.ref cm, .ref sh] h (fun o h' => o = .inl (some (.int v)) ∧ RS g O h sh s' h') := by
  obtain ⟨P, xs, ys, hS, hO⟩ := hS
  unfold c_setSpine at hr
  split at hr
  · cases hr
  · next q =>
    split at hr
    · cases hr
    · cases hr
      obtain ⟨n, rfl, -, hn⟩ := bIn_n (a := 0) (b := 1) (by omega) (by omega) (eq_true_of_ne_false q)
      have hsh := hS.1
      unfold shE at hsh
      have hne : cm ≠ sh := fun z => by rw [z, hsh] at hc; cases hc
      have q := hS.scL (s' := upd s 7 (nI n)) hW.nb (fun k hk => upd_n _ _ (by omega)) (zN_u (by omega)) (zN_u (by omega)) (zN_u (by omega)) (zN_us (by omega)) (zN_u (by omega)) (zN_u (by omega)) (zN_u (by omega)) (zN_u (by omega))
      refine Ct.of [some (.ref cm), some (.ref sh), none] (by decide +kernel) rfl (Nat.le_of_ble_eq_true rfl) rfl rfl ?_
      refine x_aload_n (M := mX13_carryOut) (pc := 0) dX13_carryOut_0 rfl ?_
      refine x_getN (M := mX13_carryOut) (pc := 1) kcX2 6 rfl q234 dX13_carryOut_1 (by first | assumption | exact xu_s _ _ _ | exact (xu_n (by first | assumption | exact Ne.symm (by assumption) | exact xu_fresh (by assumption) (by assumption) | exact (xu_fresh (by assumption) (by assumption)).symm)).trans (by first | assumption | exact xu_s _ _ _ | exact (xu_n (by first | assumption | exact Ne.symm (by assumption) | exact xu_fresh (by assumption) (by assumption) | exact (xu_fresh (by assumption) (by assumption)).symm)).trans (by first | assumption | exact xu_s _ _ _ | exact (xu_n (by first | assumption | exact Ne.symm (by assumption) | exact xu_fresh (by assumption) (by assumption) | exact (xu_fresh (by assumption) (by assumption)).symm)).trans (by first | assumption | exact xu_s _ _ _)))) rfl ?_
      refine x_istore2 (M := mX13_carryOut) (pc := 4) dX13_carryOut_4 ?_
      refine x_aload_n (M := mX13_carryOut) (pc := 5) dX13_carryOut_5 rfl ?_
      refine x_aload_n (M := mX13_carryOut) (pc := 6) dX13_carryOut_6 rfl ?_
      refine x_get (M := mX13_carryOut) (pc := 7) kcX13 0 rfl q1399 dX13_carryOut_7 (by first | assumption | exact xu_s _ _ _ | exact (xu_n (by first | assumption | exact Ne.symm (by assumption) | exact xu_fresh (by assumption) (by assumption) | exact (xu_fresh (by assumption) (by assumption)).symm)).trans (by first | assumption | exact xu_s _ _ _ | exact (xu_n (by first | assumption | exact Ne.symm (by assumption) | exact xu_fresh (by assumption) (by assumption) | exact (xu_fresh (by assumption) (by assumption)).symm)).trans (by first | assumption | exact xu_s _ _ _ | exact (xu_n (by first | assumption | exact Ne.symm (by assumption) | exact xu_fresh (by assumption) (by assumption) | exact (xu_fresh (by assumption) (by assumption)).symm)).trans (by first | assumption | exact xu_s _ _ _)))) rfl ?_
      refine x_putN6 (M := mX13_carryOut) (pc := 10) kcX2 q234 dX13_carryOut_10 (by first | assumption | exact xu_s _ _ _ | exact (xu_n (by first | assumption | exact Ne.symm (by assumption) | exact xu_fresh (by assumption) (by assumption) | exact (xu_fresh (by assumption) (by assumption)).symm)).trans (by first | assumption | exact xu_s _ _ _ | exact (xu_n (by first | assumption | exact Ne.symm (by assumption) | exact xu_fresh (by assumption) (by assumption) | exact (xu_fresh (by assumption) (by assumption)).symm)).trans (by first | assumption | exact xu_s _ _ _ | exact (xu_n (by first | assumption | exact Ne.symm (by assumption) | exact xu_fresh (by assumption) (by assumption) | exact (xu_fresh (by assumption) (by assumption)).symm)).trans (by first | assumption | exact xu_s _ _ _)))) ?_
      refine x_iload_n (M := mX13_carryOut) (pc := 13) dX13_carryOut_13 rfl ?_
      refine x_iret (M := mX13_carryOut) (pc := 14) dX13_carryOut_14 rfl (by first | exact Nat.le_of_ble_eq_true rfl | omega) (by first | exact Nat.le_of_ble_eq_true rfl | omega) ?_
      exact ⟨by rw [hW.p7.1], ⟨P, xs, ys, q, hO.on⟩, xlO.up hO.1 hS.1 rfl⟩
theorem ef_up {sh : Nat} {P : Nat → Nat} {s : Row} {xs ys : List Nat} {f : Nat → Int32} {j : Nat} {x : Int32} (hj : j < 4) (hS : SHP g h sh P s xs ys) (hb : zN s 12 ≤ 8 ∧ zN s 37 ≤ 12) (hf : ∀ k, k < 4 → f k = s (86 + k)) : SHP g (xu h (P 5) (.inl (xdA g 0, 4, .inl (upd f j x)))) sh P (upd s (86 + j) x) xs ys :=
  hS.ef hb (fun k hk => by by_cases z : k = j; (subst z; rw [upd_s, upd_s]); rw [upd_n _ _ z, upd_n _ _ (by omega)]; exact hf k hk) (fun k hk => upd_n _ _ (by omega))
theorem nb_u {s : Row} {j : Nat} {x : Int32} (hb : zN s 12 ≤ 8 ∧ zN s 37 ≤ 12) (h1 : j ≠ 12) (h2 : j ≠ 37) : zN (upd s j x) 12 ≤ 8 ∧ zN (upd s j x) 37 ≤ 12 := ⟨by rw [zN_u (Ne.symm h1)]; exact hb.1, by rw [zN_u (Ne.symm h2)]; exact hb.2⟩
theorem cy_unfold (h : xH) (cm sh d : Nat) (O : Nat → Prop) (s : Row) (hW : WF s) (v : Int32) (s' : Row) (hr : c_unfold s = .inr (v, s')) (hS : SH g h O sh s) : Ct g l mX12_carryOut d 0 0 [.ref cm, .ref sh] h (fun o h' => o = .inl (some (.int v)) ∧ RS g O h sh s' h') := by
  obtain ⟨P, xs, ys, hS, hO⟩ := hS
  have hb := hW.b
  unfold c_unfold at hr
  split at hr
  · cases hr
  · next q0 =>
    cases hr
    have hnf : zNf s ≠ 0 := fun z => q0 (Or.inl z)
    have hsh := hS.1
    obtain ⟨f5, h5, v5⟩ := hS.2.2.2.2.1
    have hne : sh ≠ P 5 := fun z => by rw [z, h5] at hsh; cases hsh
    unfold shE at hsh
    have e5 : f5 0 = s 86 := v5 0 (by omega)
    have q1 := ef_up (x := s 86 + 1) (show 0 < 4 by omega) hS hW.nb v5
    have q2 := q1.scL (s' := upd (upd s 86 (s 86 + 1)) 2 (nI (zNf s - 1))) (nb_u hW.nb (by omega) (by omega)) (fun k hk => upd_n _ _ (by omega)) (by rw [zN_u (by omega), zN_u (by omega)]) (by rw [zN_u (by omega), zN_u (by omega)]) (zN_us (by omega)) (by rw [zN_u (by omega), zN_u (by omega)]) (by rw [zN_u (by omega), zN_u (by omega)]) (by rw [zN_u (by omega), zN_u (by omega)]) (by rw [zN_u (by omega), zN_u (by omega)]) (by rw [zN_u (by omega), zN_u (by omega)])
    refine Ct.of [some (.ref cm), some (.ref sh)] (by decide +kernel) rfl (Nat.le_of_ble_eq_true rfl) rfl rfl ?_
    refine x_aload_n (M := mX12_carryOut) (pc := 0) dX12_carryOut_0 rfl ?_
    refine x_getN (M := mX12_carryOut) (pc := 1) kcX2 13 rfl q272 dX12_carryOut_1 (by first | assumption | exact xu_s _ _ _ | exact (xu_n (by first | assumption | exact Ne.symm (by assumption) | exact xu_fresh (by assumption) (by assumption) | exact (xu_fresh (by assumption) (by assumption)).symm)).trans (by first | assumption | exact xu_s _ _ _ | exact (xu_n (by first | assumption | exact Ne.symm (by assumption) | exact xu_fresh (by assumption) (by assumption) | exact (xu_fresh (by assumption) (by assumption)).symm)).trans (by first | assumption | exact xu_s _ _ _ | exact (xu_n (by first | assumption | exact Ne.symm (by assumption) | exact xu_fresh (by assumption) (by assumption) | exact (xu_fresh (by assumption) (by assumption)).symm)).trans (by first | assumption | exact xu_s _ _ _)))) rfl ?_
    refine x_iconst (M := mX12_carryOut) (pc := 4) (v := nI 0) dX12_carryOut_4 (by decide) ?_
    refine x_dup2 (M := mX12_carryOut) (pc := 5) dX12_carryOut_5 ?_
    refine x_ialdN (M := mX12_carryOut) (pc := 6) _ dX12_carryOut_6 (by first | assumption | exact xu_s _ _ _ | exact (xu_n (by first | assumption | exact Ne.symm (by assumption) | exact xu_fresh (by assumption) (by assumption) | exact (xu_fresh (by assumption) (by assumption)).symm)).trans (by first | assumption | exact xu_s _ _ _ | exact (xu_n (by first | assumption | exact Ne.symm (by assumption) | exact xu_fresh (by assumption) (by assumption) | exact (xu_fresh (by assumption) (by assumption)).symm)).trans (by first | assumption | exact xu_s _ _ _ | exact (xu_n (by first | assumption | exact Ne.symm (by assumption) | exact xu_fresh (by assumption) (by assumption) | exact (xu_fresh (by assumption) (by assumption)).symm)).trans (by first | assumption | exact xu_s _ _ _)))) (by first | rfl | assumption) (by first | assumption | omega) (by first | decide | omega) ?_
    refine x_val (M := mX12_carryOut) (pc := 7) (e5) ?_
    refine x_iconst (M := mX12_carryOut) (pc := 7) (v := 1) dX12_carryOut_7 (by decide) ?_
    first | with_reducible refine x_iaddN (M := mX12_carryOut) (pc := 8) dX12_carryOut_8 ?_ | refine x_iadd (M := mX12_carryOut) (pc := 8) dX12_carryOut_8 ?_
    refine x_iastN (M := mX12_carryOut) (pc := 9) _ dX12_carryOut_9 (by first | assumption | exact xu_s _ _ _ | exact (xu_n (by first | assumption | exact Ne.symm (by assumption) | exact xu_fresh (by assumption) (by assumption) | exact (xu_fresh (by assumption) (by assumption)).symm)).trans (by first | assumption | exact xu_s _ _ _ | exact (xu_n (by first | assumption | exact Ne.symm (by assumption) | exact xu_fresh (by assumption) (by assumption) | exact (xu_fresh (by assumption) (by assumption)).symm)).trans (by first | assumption | exact xu_s _ _ _ | exact (xu_n (by first | assumption | exact Ne.symm (by assumption) | exact xu_fresh (by assumption) (by assumption) | exact (xu_fresh (by assumption) (by assumption)).symm)).trans (by first | assumption | exact xu_s _ _ _)))) (by first | rfl | assumption) (by first | assumption | omega) (by first | decide | omega) ?_
    refine x_aload_n (M := mX12_carryOut) (pc := 10) dX12_carryOut_10 rfl ?_
    refine x_dup (M := mX12_carryOut) (pc := 11) dX12_carryOut_11 ?_
    refine x_getN (M := mX12_carryOut) (pc := 12) kcX2 3 rfl q220 dX12_carryOut_12 (by first | assumption | exact xu_s _ _ _ | exact (xu_n (by first | assumption | exact Ne.symm (by assumption) | exact xu_fresh (by assumption) (by assumption) | exact (xu_fresh (by assumption) (by assumption)).symm)).trans (by first | assumption | exact xu_s _ _ _ | exact (xu_n (by first | assumption | exact Ne.symm (by assumption) | exact xu_fresh (by assumption) (by assumption) | exact (xu_fresh (by assumption) (by assumption)).symm)).trans (by first | assumption | exact xu_s _ _ _ | exact (xu_n (by first | assumption | exact Ne.symm (by assumption) | exact xu_fresh (by assumption) (by assumption) | exact (xu_fresh (by assumption) (by assumption)).symm)).trans (by first | assumption | exact xu_s _ _ _)))) rfl ?_
    refine x_iconst (M := mX12_carryOut) (pc := 15) (v := nI 1) dX12_carryOut_15 (by decide) ?_
    first | with_reducible refine x_isubN (M := mX12_carryOut) (pc := 16) dX12_carryOut_16 (by omega) ?_ | refine x_isub (M := mX12_carryOut) (pc := 16) dX12_carryOut_16 ?_
    refine x_putN3 (M := mX12_carryOut) (pc := 17) kcX2 q220 dX12_carryOut_17 (by first | assumption | exact xu_s _ _ _ | exact (xu_n (by first | assumption | exact Ne.symm (by assumption) | exact xu_fresh (by assumption) (by assumption) | exact (xu_fresh (by assumption) (by assumption)).symm)).trans (by first | assumption | exact xu_s _ _ _ | exact (xu_n (by first | assumption | exact Ne.symm (by assumption) | exact xu_fresh (by assumption) (by assumption) | exact (xu_fresh (by assumption) (by assumption)).symm)).trans (by first | assumption | exact xu_s _ _ _ | exact (xu_n (by first | assumption | exact Ne.symm (by assumption) | exact xu_fresh (by assumption) (by assumption) | exact (xu_fresh (by assumption) (by assumption)).symm)).trans (by first | assumption | exact xu_s _ _ _)))) ?_
    refine x_aload_n (M := mX12_carryOut) (pc := 20) dX12_carryOut_20 rfl ?_
    refine x_getN (M := mX12_carryOut) (pc := 21) kcX2 3 rfl q220 dX12_carryOut_21 (by first | assumption | exact xu_s _ _ _ | exact (xu_n (by first | assumption | exact Ne.symm (by assumption) | exact xu_fresh (by assumption) (by assumption) | exact (xu_fresh (by assumption) (by assumption)).symm)).trans (by first | assumption | exact xu_s _ _ _ | exact (xu_n (by first | assumption | exact Ne.symm (by assumption) | exact xu_fresh (by assumption) (by assumption) | exact (xu_fresh (by assumption) (by assumption)).symm)).trans (by first | assumption | exact xu_s _ _ _ | exact (xu_n (by first | assumption | exact Ne.symm (by assumption) | exact xu_fresh (by assumption) (by assumption) | exact (xu_fresh (by assumption) (by assumption)).symm)).trans (by first | assumption | exact xu_s _ _ _)))) rfl ?_
    refine x_iret (M := mX12_carryOut) (pc := 24) dX12_carryOut_24 rfl (by first | exact Nat.le_of_ble_eq_true rfl | omega) (by first | exact Nat.le_of_ble_eq_true rfl | omega) ?_
    exact ⟨rfl, ⟨P, xs, ys, q2, hO.on⟩, (xlO.up (hO.2.1 5 (by omega)) h5 rfl).tr (xlO.up hO.1 q1.1 rfl)⟩
theorem cy_fold (h : xH) (cm sh d : Nat) (hd : 1 ≤ d) (O : Nat → Prop) (s : Row) (hW : WF s) (x v : Int32) (s' : Row) (hr : c_fold s x = .inr (v, s')) (hS : SH g h O sh s) (hc : h cm = some (.inr (11, [.int x]))) : Ct g l mX11_carryOut d 0 0 [.ref cm, .ref sh] h (fun o h' => o = .inl (some (.int v)) ∧ RS g O h sh s' h') := by
  have hW' : WF s' := (k_fold hW x _ _ hr).1
  obtain ⟨P, xs, ys, hS, hO⟩ := hS
  have hb := hW.b
  unfold c_fold at hr
  split at hr
  · cases hr
  · next q0 =>
    split at hr
    · cases hr
    · cases hr
      have hb' := hW'.b
      rw [show zNf (upd (upd (upd s 86 (s 86 + nI (2 ^ zNf s))) (3 + zNf s) x) 2 (nI (zNf s + 1))) = zNf s + 1 from zN_us (by omega)] at hb'
      obtain ⟨n, rfl, hn1, hn⟩ := bIn_n (a := 1) (b := 4) (by omega) (by omega) (eq_true_of_ne_false q0)
      have hsh := hS.1
      have hsh0 := hS.1
      obtain ⟨f5, h5, v5⟩ := hS.2.2.2.2.1
      obtain ⟨f0, h0, v0⟩ := hS.2.1
      have hne : sh ≠ P 5 := fun z => by rw [z, h5] at hsh; cases hsh
      have hne2 : cm ≠ P 5 := fun z => by rw [z, h5] at hc; cases hc
      have hne3 : cm ≠ P 0 := fun z => by rw [z, h0] at hc; cases hc
      have hne4 : sh ≠ P 0 := fun z => by rw [z, h0] at hsh; cases hsh
      have hne5 : P 0 ≠ P 5 := hS.2.2.2.2.2.2.2.1
      unfold shE at hsh
      have e5 : f5 0 = s 86 := v5 0 (by omega)
      have q1 := ef_up (x := s 86 + nI (2 ^ zNf s)) (show 0 < 4 by omega) hS hW.nb v5
      have q2 := q1.fo (s' := upd (upd s 86 (s 86 + nI (2 ^ zNf s))) (3 + zNf s) (nI n)) (f := upd f0 (zNf s) (nI n)) (nb_u hW.nb (by omega) (by omega)) (fun k hk => by by_cases z : k = zNf s; (subst z; rw [upd_s, upd_s]); rw [upd_n _ _ z, upd_n _ _ (by omega), upd_n _ _ (by omega)]; exact v0 k hk) (fun k hk => upd_n _ _ (by omega))
      have q3 := q2.scL (s' := upd (upd (upd s 86 (s 86 + nI (2 ^ zNf s))) (3 + zNf s) (nI n)) 2 (nI (zNf s + 1))) (nb_u (nb_u hW.nb (by omega) (by omega)) (by omega) (by omega)) (fun k hk => upd_n _ _ (by omega)) (by rw [zN_u (by omega), zN_u (by omega), zN_u (by omega)]) (by rw [zN_u (by omega), zN_u (by omega), zN_u (by omega)]) (zN_us (by omega)) (by rw [zN_u (by omega), zN_u (by omega), zN_u (by omega)]) (by rw [zN_u (by omega), zN_u (by omega), zN_u (by omega)]) (by rw [zN_u (by omega), zN_u (by omega), zN_u (by omega)]) (by rw [zN_u (by omega), zN_u (by omega), zN_u (by omega)]) (by rw [zN_u (by omega), zN_u (by omega), zN_u (by omega)])
      have c37 := c_layers (g := g) (l := l) _ sh (d - 1) P _ hW' q3.1
      rw [show zNf (upd (upd (upd s 86 (s 86 + nI (2 ^ zNf s))) (3 + zNf s) (nI n)) 2 (nI (zNf s + 1))) = zNf s + 1 from zN_us (by omega)] at c37
      have hp : 2 ^ (zNf s + 1) = 2 * 2 ^ zNf s := by rw [Nat.pow_succ, Nat.mul_comm]
      refine Ct.of [some (.ref cm), some (.ref sh)] (by decide +kernel) rfl (Nat.le_of_ble_eq_true rfl) rfl rfl ?_
      refine x_aload_n (M := mX11_carryOut) (pc := 0) dX11_carryOut_0 rfl ?_
      refine x_getN (M := mX11_carryOut) (pc := 1) kcX2 13 rfl q270 dX11_carryOut_1 (by first | assumption | exact xu_s _ _ _ | exact (xu_n (by first | assumption | exact Ne.symm (by assumption) | exact xu_fresh (by assumption) (by assumption) | exact (xu_fresh (by assumption) (by assumption)).symm)).trans (by first | assumption | exact xu_s _ _ _ | exact (xu_n (by first | assumption | exact Ne.symm (by assumption) | exact xu_fresh (by assumption) (by assumption) | exact (xu_fresh (by assumption) (by assumption)).symm)).trans (by first | assumption | exact xu_s _ _ _ | exact (xu_n (by first | assumption | exact Ne.symm (by assumption) | exact xu_fresh (by assumption) (by assumption) | exact (xu_fresh (by assumption) (by assumption)).symm)).trans (by first | assumption | exact xu_s _ _ _)))) rfl ?_
      refine x_iconst (M := mX11_carryOut) (pc := 4) (v := nI 0) dX11_carryOut_4 (by decide) ?_
      refine x_dup2 (M := mX11_carryOut) (pc := 5) dX11_carryOut_5 ?_
      refine x_ialdN (M := mX11_carryOut) (pc := 6) _ dX11_carryOut_6 (by first | assumption | exact xu_s _ _ _ | exact (xu_n (by first | assumption | exact Ne.symm (by assumption) | exact xu_fresh (by assumption) (by assumption) | exact (xu_fresh (by assumption) (by assumption)).symm)).trans (by first | assumption | exact xu_s _ _ _ | exact (xu_n (by first | assumption | exact Ne.symm (by assumption) | exact xu_fresh (by assumption) (by assumption) | exact (xu_fresh (by assumption) (by assumption)).symm)).trans (by first | assumption | exact xu_s _ _ _ | exact (xu_n (by first | assumption | exact Ne.symm (by assumption) | exact xu_fresh (by assumption) (by assumption) | exact (xu_fresh (by assumption) (by assumption)).symm)).trans (by first | assumption | exact xu_s _ _ _)))) (by first | rfl | assumption) (by first | assumption | omega) (by first | decide | omega) ?_
      refine x_val (M := mX11_carryOut) (pc := 7) (e5) ?_
      refine x_aload_n (M := mX11_carryOut) (pc := 7) dX11_carryOut_7 rfl ?_
      refine x_V0 (M := mX11_carryOut) (pc := 8) (M' := mX2_layers) q1224 kVX2_layers dX11_carryOut_8 (c_layers h sh (d - 1) P s hW hsh0) (hS.is) (fun v_ h hq_ => ?_)
      obtain ⟨hv_, rfl⟩ := hq_; cases hv_
      first | with_reducible refine x_iaddN (M := mX11_carryOut) (pc := 11) dX11_carryOut_11 ?_ | refine x_iadd (M := mX11_carryOut) (pc := 11) dX11_carryOut_11 ?_
      refine x_iastN (M := mX11_carryOut) (pc := 12) _ dX11_carryOut_12 (by first | assumption | exact xu_s _ _ _ | exact (xu_n (by first | assumption | exact Ne.symm (by assumption) | exact xu_fresh (by assumption) (by assumption) | exact (xu_fresh (by assumption) (by assumption)).symm)).trans (by first | assumption | exact xu_s _ _ _ | exact (xu_n (by first | assumption | exact Ne.symm (by assumption) | exact xu_fresh (by assumption) (by assumption) | exact (xu_fresh (by assumption) (by assumption)).symm)).trans (by first | assumption | exact xu_s _ _ _ | exact (xu_n (by first | assumption | exact Ne.symm (by assumption) | exact xu_fresh (by assumption) (by assumption) | exact (xu_fresh (by assumption) (by assumption)).symm)).trans (by first | assumption | exact xu_s _ _ _)))) (by first | rfl | assumption) (by first | assumption | omega) (by first | decide | omega) ?_
      refine x_aload_n (M := mX11_carryOut) (pc := 13) dX11_carryOut_13 rfl ?_
      refine x_getN (M := mX11_carryOut) (pc := 14) kcX2 2 rfl q219 dX11_carryOut_14 (by first | assumption | exact xu_s _ _ _ | exact (xu_n (by first | assumption | exact Ne.symm (by assumption) | exact xu_fresh (by assumption) (by assumption) | exact (xu_fresh (by assumption) (by assumption)).symm)).trans (by first | assumption | exact xu_s _ _ _ | exact (xu_n (by first | assumption | exact Ne.symm (by assumption) | exact xu_fresh (by assumption) (by assumption) | exact (xu_fresh (by assumption) (by assumption)).symm)).trans (by first | assumption | exact xu_s _ _ _ | exact (xu_n (by first | assumption | exact Ne.symm (by assumption) | exact xu_fresh (by assumption) (by assumption) | exact (xu_fresh (by assumption) (by assumption)).symm)).trans (by first | assumption | exact xu_s _ _ _)))) rfl ?_
      refine x_aload_n (M := mX11_carryOut) (pc := 17) dX11_carryOut_17 rfl ?_
      refine x_getN (M := mX11_carryOut) (pc := 18) kcX2 3 rfl q223 dX11_carryOut_18 (by first | assumption | exact xu_s _ _ _ | exact (xu_n (by first | assumption | exact Ne.symm (by assumption) | exact xu_fresh (by assumption) (by assumption) | exact (xu_fresh (by assumption) (by assumption)).symm)).trans (by first | assumption | exact xu_s _ _ _ | exact (xu_n (by first | assumption | exact Ne.symm (by assumption) | exact xu_fresh (by assumption) (by assumption) | exact (xu_fresh (by assumption) (by assumption)).symm)).trans (by first | assumption | exact xu_s _ _ _ | exact (xu_n (by first | assumption | exact Ne.symm (by assumption) | exact xu_fresh (by assumption) (by assumption) | exact (xu_fresh (by assumption) (by assumption)).symm)).trans (by first | assumption | exact xu_s _ _ _)))) rfl ?_
      refine x_aload_n (M := mX11_carryOut) (pc := 21) dX11_carryOut_21 rfl ?_
      refine x_get (M := mX11_carryOut) (pc := 22) kcX11 0 rfl q1374 dX11_carryOut_22 (by first | assumption | exact xu_s _ _ _ | exact (xu_n (by first | assumption | exact Ne.symm (by assumption) | exact xu_fresh (by assumption) (by assumption) | exact (xu_fresh (by assumption) (by assumption)).symm)).trans (by first | assumption | exact xu_s _ _ _ | exact (xu_n (by first | assumption | exact Ne.symm (by assumption) | exact xu_fresh (by assumption) (by assumption) | exact (xu_fresh (by assumption) (by assumption)).symm)).trans (by first | assumption | exact xu_s _ _ _ | exact (xu_n (by first | assumption | exact Ne.symm (by assumption) | exact xu_fresh (by assumption) (by assumption) | exact (xu_fresh (by assumption) (by assumption)).symm)).trans (by first | assumption | exact xu_s _ _ _)))) rfl ?_
      refine x_iastN (M := mX11_carryOut) (pc := 25) _ dX11_carryOut_25 (by first | assumption | exact xu_s _ _ _ | exact (xu_n (by first | assumption | exact Ne.symm (by assumption) | exact xu_fresh (by assumption) (by assumption) | exact (xu_fresh (by assumption) (by assumption)).symm)).trans (by first | assumption | exact xu_s _ _ _ | exact (xu_n (by first | assumption | exact Ne.symm (by assumption) | exact xu_fresh (by assumption) (by assumption) | exact (xu_fresh (by assumption) (by assumption)).symm)).trans (by first | assumption | exact xu_s _ _ _ | exact (xu_n (by first | assumption | exact Ne.symm (by assumption) | exact xu_fresh (by assumption) (by assumption) | exact (xu_fresh (by assumption) (by assumption)).symm)).trans (by first | assumption | exact xu_s _ _ _)))) (by first | rfl | assumption) (by first | assumption | omega) (by first | decide | omega) ?_
      refine x_aload_n (M := mX11_carryOut) (pc := 26) dX11_carryOut_26 rfl ?_
      refine x_dup (M := mX11_carryOut) (pc := 27) dX11_carryOut_27 ?_
      refine x_getN (M := mX11_carryOut) (pc := 28) kcX2 3 rfl q223 dX11_carryOut_28 (by first | assumption | exact xu_s _ _ _ | exact (xu_n (by first | assumption | exact Ne.symm (by assumption) | exact xu_fresh (by assumption) (by assumption) | exact (xu_fresh (by assumption) (by assumption)).symm)).trans (by first | assumption | exact xu_s _ _ _ | exact (xu_n (by first | assumption | exact Ne.symm (by assumption) | exact xu_fresh (by assumption) (by assumption) | exact (xu_fresh (by assumption) (by assumption)).symm)).trans (by first | assumption | exact xu_s _ _ _ | exact (xu_n (by first | assumption | exact Ne.symm (by assumption) | exact xu_fresh (by assumption) (by assumption) | exact (xu_fresh (by assumption) (by assumption)).symm)).trans (by first | assumption | exact xu_s _ _ _)))) rfl ?_
      refine x_iconst (M := mX11_carryOut) (pc := 31) (v := nI 1) dX11_carryOut_31 (by decide) ?_
      first | with_reducible refine x_iaddN (M := mX11_carryOut) (pc := 32) dX11_carryOut_32 ?_ | refine x_iadd (M := mX11_carryOut) (pc := 32) dX11_carryOut_32 ?_
      refine x_putN3 (M := mX11_carryOut) (pc := 33) kcX2 q223 dX11_carryOut_33 (by first | assumption | exact xu_s _ _ _ | exact (xu_n (by first | assumption | exact Ne.symm (by assumption) | exact xu_fresh (by assumption) (by assumption) | exact (xu_fresh (by assumption) (by assumption)).symm)).trans (by first | assumption | exact xu_s _ _ _ | exact (xu_n (by first | assumption | exact Ne.symm (by assumption) | exact xu_fresh (by assumption) (by assumption) | exact (xu_fresh (by assumption) (by assumption)).symm)).trans (by first | assumption | exact xu_s _ _ _ | exact (xu_n (by first | assumption | exact Ne.symm (by assumption) | exact xu_fresh (by assumption) (by assumption) | exact (xu_fresh (by assumption) (by assumption)).symm)).trans (by first | assumption | exact xu_s _ _ _)))) ?_
      refine x_aload_n (M := mX11_carryOut) (pc := 36) dX11_carryOut_36 rfl ?_
      refine x_V0 (M := mX11_carryOut) (pc := 37) (M' := mX2_layers) q1224 kVX2_layers dX11_carryOut_37 (c37) (q3.is) (fun v_ h hq_ => ?_)
      obtain ⟨hv_, rfl⟩ := hq_; cases hv_
      refine x_iret (M := mX11_carryOut) (pc := 40) dX11_carryOut_40 rfl (by first | exact Nat.le_of_ble_eq_true rfl | omega) (by first | exact Nat.le_of_ble_eq_true rfl | omega) ?_
      exact ⟨by rw [hp], ⟨P, xs, ys, q3, hO.on⟩, ((xlO.up (hO.2.1 5 (by omega)) h5 rfl).tr (xlO.up (hO.2.1 0 (by omega)) ((xu_n hne5).trans h0) rfl)).tr (xlO.up hO.1 q2.1 rfl)⟩
end CARRY

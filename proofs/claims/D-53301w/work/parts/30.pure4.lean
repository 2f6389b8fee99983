section PURE4
set_option maxRecDepth 100000
/-! a sheet's row, read as numbers -/
abbrev Row : Type := Nat → Int32
def zN (s : Row) (k : Nat) : Nat := (s k).toNatClampNeg
abbrev zHi (s : Row) : Nat := zN s 0
abbrev zWi (s : Row) : Nat := zN s 1
abbrev zNf (s : Row) : Nat := zN s 2
abbrev zFo (s : Row) : Nat → Nat := fun k => zN s (3 + k)
/-- what a row holds -/
def WF (s : Row) : Prop :=
  FW s (zHi s) (zWi s) (zNf s) (zFo s) ∧ (s 7 = nI (zN s 7) ∧ zN s 7 < 2) ∧ (s 8 = nI (zN s 8) ∧ zN s 8 < 16) ∧ (s 9 = nI (zN s 9) ∧ zN s 9 < 1024) ∧ (s 10 = nI (zN s 10) ∧ 1 ≤ zN s 10 ∧ zN s 10 ≤ 16) ∧ (s 11 = nI (zN s 11) ∧ 1 ≤ zN s 11 ∧ zN s 11 ≤ 9) ∧
  (s 12 = nI (zN s 12) ∧ zN s 12 ≤ 8) ∧ (∀ k, k < zN s 12 → (s (13 + 3 * k) = nI (zN s (13 + 3 * k)) ∧ zN s (13 + 3 * k) < 2 * (zHi s * zWi s)) ∧ (s (14 + 3 * k) = nI (zN s (14 + 3 * k)) ∧ zN s (14 + 3 * k) < 32) ∧ (s (15 + 3 * k) = nI (zN s (15 + 3 * k)) ∧ zN s (15 + 3 * k) < 2)) ∧
  (s 37 = nI (zN s 37) ∧ zN s 37 ≤ 12) ∧ (∀ k, k < zN s 37 → (s (38 + 4 * k) = nI (zN s (38 + 4 * k)) ∧ zN s (38 + 4 * k) < 100) ∧ (s (39 + 4 * k) = nI (zN s (39 + 4 * k)) ∧ zN s (39 + 4 * k) < 10) ∧ (s (40 + 4 * k) = nI (zN s (40 + 4 * k)) ∧ 1 ≤ zN s (40 + 4 * k) ∧ zN s (40 + 4 * k) ≤ 20) ∧ (s (41 + 4 * k) = nI (zN s (41 + 4 * k)) ∧ zN s (41 + 4 * k) < 2)) ∧
  (∀ k, k < 32 → (s (90 + k) = -1 ∨ (s (90 + k) = nI (zN s (90 + k)) ∧ zN s (90 + k) < 32)) ∧ (s (122 + k) = bI (decide (s (122 + k) = 1))))
def bIn (x lo hi : Int32) : Bool := decide (lo ≤ x ∧ x ≤ hi)
def zHeld (s : Row) : Bool := decide (s 8 ≠ 0 ∨ s 9 ≠ 0)
/-- a command: an error, or an answer and the new row -/
abbrev CRes : Type := Int32 ⊕ (Int32 × Row)
def isSz (x : Int32) : Bool := decide (x = 1) || decide (x = 2) || decide (x = 4)
def c_setSheet (s : Row) (r c : Int32) : CRes := if isSz r && isSz c then .inr (r * c, p_noPrint 32 (upd (upd (upd (upd (upd (upd s 0 r) 1 c) 2 0) 8 0) 9 0) 12 0)) else .inl (-1)
def zLay (s : Row) : Nat × Nat × Nat × (Nat → Lay) := p_layn (zHi s) (zWi s) (zFo s) (zNf s)
def zMay (s : Row) (f : Nat) : Bool := if f < 3 then decide (1 < (zLay s).2.1) else decide (1 < (zLay s).1)
def c_fold (s : Row) (f : Int32) : CRes := if bIn f 1 4 = false then .inl (-1) else if zMay s f.toNatClampNeg = false ∨ zHeld s = true then .inl (-2) else .inr (nI (2 * 2 ^ zNf s), upd (upd (upd s 86 (s 86 + nI (2 ^ zNf s))) (3 + zNf s) f) 2 (nI (zNf s + 1)))
def c_unfold (s : Row) : CRes := if zNf s = 0 ∨ zHeld s = true then .inl (-2) else .inr (nI (zNf s - 1), upd (upd s 86 (s 86 + 1)) 2 (nI (zNf s - 1)))
def c_setSpine (s : Row) (x : Int32) : CRes := if bIn x 0 1 = false then .inl (-1) else if s 9 ≠ 0 then .inl (-2) else .inr (s 7, upd s 7 x)
def zCell (s : Row) (r c : Int32) : Bool := bIn r 0 (s 0 - 1) && bIn c 0 (s 1 - 1)
/-- printing on a side -/
def p_prT (nu tn : Int32) : Int32 := if nu < 0 then 0 else tn
def p_prC (s : Row) (a : Nat) (nu tn : Int32) : Int32 := if s (90 + a) ≠ nu ∨ s (122 + a) ≠ p_prT nu tn then 1 else 0
def p_prS (s : Row) (a : Nat) (nu tn : Int32) : Row := upd (upd (upd s (90 + a) nu) (122 + a) (p_prT nu tn)) 87 (s 87 + p_prC s a nu tn)
def zNone (x : Int32) : Int32 := if x < 0 then -9 else x
def zAt (s : Row) (r c sd : Int32) : Nat := 2 * (zWi s * r.toNatClampNeg + c.toNatClampNeg) + sd.toNatClampNeg
def c_print (s : Row) (r c sd nu tn : Int32) : CRes := if (zCell s r c && bIn sd 0 1 && bIn nu (-1) 31 && bIn tn 0 1) = false then .inl (-1) else if 0 < zNf s ∨ zHeld s = true then .inl (-2) else .inr (zNone (s (90 + zAt s r c sd)), p_prS s (zAt s r c sd) nu tn)
/-- printing all pages: the row, how many changed -/
def p_prA (ly : Nat → Lay) (sp : Nat) (s : Row) : Nat → Row × Int32
  | 0 => (s, 0)
  | n + 1 => (p_prS (p_prA ly sp s n).1 (p_sd ly n) (nI n) (bI (p_tn ly sp n)), (p_prA ly sp s n).2 + p_prC (p_prA ly sp s n).1 (p_sd ly n) (nI n) (bI (p_tn ly sp n)))
def zBy (s : Row) (v : Int32) : Nat → Lay := (p_layn (zHi s) (zWi s) (p_dig v.toNatClampNeg) (p_len v.toNatClampNeg)).2.2.2
def c_printAll (s : Row) (v : Int32) : CRes := if p_isRowI (zHi s) (zWi s) v = false then .inl (-1) else if 0 < zNf s ∨ zHeld s = true then .inl (-2) else .inr ((p_prA (zBy s v) (zN s 7) s (2 * (zHi s * zWi s))).2, (p_prA (zBy s v) (zN s 7) s (2 * (zHi s * zWi s))).1)
def zBook (s : Row) : Bool := decide (2 ^ zNf s = zHi s * zWi s)
def zLy (s : Row) : Nat → Lay := (zLay s).2.2.2
def c_cut (s : Row) (e : Int32) : CRes := if bIn e 0 3 = false then .inl (-1) else if zBook s = false ∨ (zN s 8).testBit e.toNatClampNeg = true then .inl (-2) else .inr (nI (p_prs (zWi s) (zLy s) (zHi s * zWi s) e.toNatClampNeg), upd (upd s 8 (nI (zN s 8 ||| 2 ^ e.toNatClampNeg))) 88 (s 88 + nI (zHi s * zWi s)))
/-- how many bits -/
def p_ones : Nat → Nat → Nat
  | 0, _ => 0
  | n + 1, k => k % 2 + p_ones n (k / 2)
def c_staple (s : Row) (p : Int32) : CRes := if bIn p 0 9 = false then .inl (-1) else if zBook s = false ∨ (zN s 9).testBit p.toNatClampNeg = true then .inl (-2) else if p_ones 16 (zN s 9) = 3 then .inl (-3) else .inr (nI (min (zN s 10) (zHi s * zWi s)), upd (upd s 9 (nI (zN s 9 ||| 2 ^ p.toNatClampNeg))) 89 (s 89 + 3))
def p_clr (a k : Nat) : Nat := if a.testBit k then a - 2 ^ k else a
def c_unstaple (s : Row) (p : Int32) : CRes := if bIn p 0 9 = false then .inl (-1) else if (zN s 9).testBit p.toNatClampNeg = false then .inl (-2) else .inr (nI (p_ones 16 (p_clr (zN s 9) p.toNatClampNeg)), upd (upd s 9 (nI (p_clr (zN s 9) p.toNatClampNeg))) 89 (s 89 + 1))
def c_setLegs (s : Row) (x : Int32) : CRes := if bIn x 1 16 = false then .inl (-1) else .inr (s 10, upd s 10 x)
def c_see (s : Row) (p n t : Int32) : CRes := if (bIn p 0 (2 * (s 0 * s 1) - 1) && bIn n 0 31 && bIn t 0 1) = false then .inl (-1) else if zN s 12 = 8 then .inl (-3) else .inr (nI (zN s 12 + 1), upd (upd (upd (upd s (13 + 3 * zN s 12) p) (13 + 3 * zN s 12 + 1) n) (13 + 3 * zN s 12 + 2) t) 12 (nI (zN s 12 + 1)))
def c_forget (s : Row) : CRes := .inr (s 12, upd s 12 0)
def c_addNote (s : Row) (a b c d : Int32) : CRes := if (bIn a 0 99 && bIn b 0 9 && bIn c 1 20 && bIn d 0 1) = false then .inl (-1) else if zN s 37 = 12 then .inl (-3) else .inr (nI (zN s 37), upd (upd (upd (upd (upd s (38 + 4 * zN s 37) a) (38 + 4 * zN s 37 + 1) b) (38 + 4 * zN s 37 + 2) c) (38 + 4 * zN s 37 + 3) d) 37 (nI (zN s 37 + 1)))
def c_removeNote (s : Row) (x : Int32) : CRes := if bIn x 0 (s 37 - 1) = false then .inl (-1) else .inr (nI (zN s 37 - 1), fun k => if 38 + 4 * x.toNatClampNeg ≤ k ∧ k < 38 + 4 * (zN s 37 - 1) then s (k + 4) else if k = 37 then nI (zN s 37 - 1) else s k)
def c_setLines (s : Row) (x : Int32) : CRes := if bIn x 1 9 = false then .inl (-1) else .inr (s 11, upd s 11 x)
def c_take (s : Row) (x : Int32) : CRes := if bIn x 0 1 = false then .inl (-1) else .inr (s 2, fun k => if 156 + 154 * x.toNatClampNeg ≤ k ∧ k < 156 + 154 * x.toNatClampNeg + 154 then s (k - (156 + 154 * x.toNatClampNeg)) else if k = 154 + x.toNatClampNeg then 1 else s k)
def c_restore (s : Row) (x : Int32) : CRes := if bIn x 0 1 = false then .inl (-1) else if s (154 + x.toNatClampNeg) = 0 then .inl (-2) else .inr (s (156 + 154 * x.toNatClampNeg + 2), fun k => if k < 154 then s (156 + 154 * x.toNatClampNeg + k) else s k)
theorem bIn_n {x : Int32} {a b : Nat} (ha : a < 2 ^ 31) (hb : b < 2 ^ 31) (h : bIn x (nI a) (nI b) = true) : ∃ n, x = nI n ∧ a ≤ n ∧ n ≤ b := (in_of ha hb).mp (of_decide_eq_true h)
end PURE4
section MODEL8
set_option maxRecDepth 100000
variable {g : xG} {l : Launch} {m : Nat} {A : Nat → Nat} {I : Nat → Int32} {B : Nat → Nat → Int32} {wd : Int64}
/-- behind act(): recorded or not -/
def AREC (r : Bool) (u : Nat) (I : Nat → Int32) (B : Nat → Nat → Int32) (I' : Nat → Int32) (B' : Nat → Nat → Int32) : Prop := (∀ j, j ≠ 3 → I' j = I j) ∧ (∀ j, j ≠ 1 → B' j = B j) ∧ (r = true → I' 3 = I 3 ∧ B' 1 = B 1) ∧ (r = false → I' 3 = nI (p_recN u + 1) ∧ B' 1 = p_recB u (B 1) (B 0))
theorem arec_of (r : Bool) (u : Nat) (I : Nat → Int32) (B : Nat → Nat → Int32) : AREC r u I B (if r then I else upd I 3 (nI (p_recN u + 1))) (if r then B else va_up B 1 (p_recB u (B 1) (B 0))) := by
  cases r
  · refine ⟨fun j hj => ?_, fun j hj => ?_, fun q => ?_, fun _ => ⟨?_, ?_⟩⟩
    · simp [upd, hj]
    · simp [va_up, hj]
    · cases q
    · simp [upd]
    · simp [va_up]
  · exact ⟨fun _ _ => rfl, fun _ _ => rfl, fun _ => ⟨rfl, rfl⟩, fun q => nomatch q⟩
theorem m_actR (d u : Nat) (hu : u ≤ 5) (hU : I 3 = nI u) (r : Bool) (hr : I 6 = bI r) (hd : 1 ≤ d) : MC g l mX3_act d [] m A I B wd (fun v I' B' wd' => v = none ∧ AREC r u I B I' B' ∧ wd' = wd) := by
  intro h hM
  refine (m_act d u hu hU r hr hd h hM).mono ?_
  rintro o h' ⟨v, I', B', wd', rfl, ⟨rfl, rfl, rfl, rfl⟩, hM', hF'⟩
  exact ⟨_, _, _, _, rfl, ⟨rfl, arec_of r u I B, rfl⟩, hM', hF'⟩
/-- how a command of the reference ends -/
def ACT (r : Bool) (u : Nat) (I : Nat → Int32) (B : Nat → Nat → Int32) (wd : Int64) (res : CRes) : Option Value → (Nat → Int32) → (Nat → Nat → Int32) → Int64 → Prop := fun v I' B' wd' => match res with
  | .inl e => v = some (.int e) ∧ LF I B wd I' B' wd'
  | .inr x => v = some (.int x.1) ∧ (∀ j, j ≠ 3 → j ≠ 7 → j ≠ 8 → j ≠ 9 → I' j = I j) ∧ (∀ j, j ≠ 0 → j ≠ 1 → j < 10 ∨ 17 < j → B' j = B j) ∧ wd' = wd ∧ B' 0 = x.2 ∧ (r = true → I' 3 = I 3 ∧ B' 1 = B 1) ∧ (r = false → I' 3 = nI (p_recN u + 1) ∧ B' 1 = p_recB u (B 1) (B 0))
theorem act_done {r : Bool} {u : Nat} {I0 I1 : Nat → Int32} {B0 B1 B2 : Nat → Nat → Int32} {w0 w1 : Int64} {x : Int32} {s' : Row} (hL : LF I B wd I0 B0 w0) (hR : AREC r u I0 B0 I1 B1) (hw : w1 = w0) (h0 : B2 0 = s') (hj : ∀ j, j ≠ 0 → B2 j = B1 j) : ACT r u I B wd (.inr (x, s')) (some (.int x)) I1 B2 w1 := by
  refine ⟨rfl, fun j a b c e => (hR.1 j a).trans (hL.1 j b c e), fun j a b c => (hj j a).trans ((hR.2.1 j b).trans (hL.2.1 j c)), hw.trans hL.2.2, h0, fun q => ⟨(hR.2.2.1 q).1.trans (hL.1 3 (by omega) (by omega) (by omega)), (hj 1 (by omega)).trans ((hR.2.2.1 q).2.trans (hL.2.1 1 (by omega)))⟩, fun q => ⟨(hR.2.2.2 q).1, (hj 1 (by omega)).trans ((hR.2.2.2 q).2.trans ?_)⟩⟩
  rw [hL.2.1 1 (by omega), hL.2.1 0 (by omega)]
theorem m_isSide (h : xH) (x : Int32) (d : Nat) : Ct g l mX3_isSide d 0 0 [.int x] h (fun o h' => o = .inl (some (.int (bI (isSz x)))) ∧ h' = h) := by
  refine Ct.of [some (.int x)] (by decide +kernel) rfl (Nat.le_of_ble_eq_true rfl) rfl rfl ?_
  refine x_iload_n (M := mX3_isSide) (pc := 0) dX3_isSide_0 rfl ?_
  refine x_iconst (M := mX3_isSide) (pc := 1) (v := nI 1) dX3_isSide_1 (by decide) ?_
  refine x_icmp_eq (M := mX3_isSide) (pc := 2) 15 dX3_isSide_2 (by decide) (fun r_a => ?_) (fun r_a => ?_)
  · refine x_iconst (M := mX3_isSide) (pc := 15) (v := nI 1) dX3_isSide_15 (by decide) ?_
    refine x_goto (M := mX3_isSide) (pc := 16) 20 dX3_isSide_16 (by decide) ?_
    refine x_zret (M := mX3_isSide) (pc := 20) dX3_isSide_20 rfl (by first | with_reducible exact xz0 | with_reducible exact xz1 | with_reducible exact bI_01 _ | with_reducible assumption | assumption) (Nat.le_refl 0) (Nat.le_refl 0) ?_
    exact ⟨congrArg Sum.inl (by first | exact vB1 (by simp_all [isSz, show nI 1 = 1 from rfl, show nI 2 = 2 from rfl, show nI 4 = 4 from rfl]) | exact vB0 (by simp_all [isSz, show nI 1 = 1 from rfl, show nI 2 = 2 from rfl, show nI 4 = 4 from rfl])), rfl⟩
  · refine x_iload_n (M := mX3_isSide) (pc := 5) dX3_isSide_5 rfl ?_
    refine x_iconst (M := mX3_isSide) (pc := 6) (v := nI 2) dX3_isSide_6 (by decide) ?_
    refine x_icmp_eq (M := mX3_isSide) (pc := 7) 15 dX3_isSide_7 (by decide) (fun r_b => ?_) (fun r_b => ?_)
    · refine x_iconst (M := mX3_isSide) (pc := 15) (v := nI 1) dX3_isSide_15 (by decide) ?_
      refine x_goto (M := mX3_isSide) (pc := 16) 20 dX3_isSide_16 (by decide) ?_
      refine x_zret (M := mX3_isSide) (pc := 20) dX3_isSide_20 rfl (by first | with_reducible exact xz0 | with_reducible exact xz1 | with_reducible exact bI_01 _ | with_reducible assumption | assumption) (Nat.le_refl 0) (Nat.le_refl 0) ?_
      exact ⟨congrArg Sum.inl (by first | exact vB1 (by simp_all [isSz, show nI 1 = 1 from rfl, show nI 2 = 2 from rfl, show nI 4 = 4 from rfl]) | exact vB0 (by simp_all [isSz, show nI 1 = 1 from rfl, show nI 2 = 2 from rfl, show nI 4 = 4 from rfl])), rfl⟩
    · refine x_iload_n (M := mX3_isSide) (pc := 10) dX3_isSide_10 rfl ?_
      refine x_iconst (M := mX3_isSide) (pc := 11) (v := nI 4) dX3_isSide_11 (by decide) ?_
      refine x_icmp_ne (M := mX3_isSide) (pc := 12) 19 dX3_isSide_12 (by decide) (fun r_c => ?_) (fun r_c => ?_)
      · refine x_iconst (M := mX3_isSide) (pc := 19) (v := nI 0) dX3_isSide_19 (by decide) ?_
        refine x_zret (M := mX3_isSide) (pc := 20) dX3_isSide_20 rfl (by first | with_reducible exact xz0 | with_reducible exact xz1 | with_reducible exact bI_01 _ | with_reducible assumption | assumption) (Nat.le_refl 0) (Nat.le_refl 0) ?_
        exact ⟨congrArg Sum.inl (by first | exact vB1 (by simp_all [isSz, show nI 1 = 1 from rfl, show nI 2 = 2 from rfl, show nI 4 = 4 from rfl]) | exact vB0 (by simp_all [isSz, show nI 1 = 1 from rfl, show nI 2 = 2 from rfl, show nI 4 = 4 from rfl])), rfl⟩
      · refine x_iconst (M := mX3_isSide) (pc := 15) (v := nI 1) dX3_isSide_15 (by decide) ?_
        refine x_goto (M := mX3_isSide) (pc := 16) 20 dX3_isSide_16 (by decide) ?_
        refine x_zret (M := mX3_isSide) (pc := 20) dX3_isSide_20 rfl (by first | with_reducible exact xz0 | with_reducible exact xz1 | with_reducible exact bI_01 _ | with_reducible assumption | assumption) (Nat.le_refl 0) (Nat.le_refl 0) ?_
        exact ⟨congrArg Sum.inl (by first | exact vB1 (by simp_all [isSz, show nI 1 = 1 from rfl, show nI 2 = 2 from rfl, show nI 4 = 4 from rfl]) | exact vB0 (by simp_all [isSz, show nI 1 = 1 from rfl, show nI 2 = 2 from rfl, show nI 4 = 4 from rfl])), rfl⟩
theorem act_err {r : Bool} {u : Nat} {I' : Nat → Int32} {B' : Nat → Nat → Int32} {wd' : Int64} {e : Int32} {res : CRes} (h : res = .inl e) (hL : LF I B wd I' B' wd') : ACT r u I B wd res (some (.int e)) I' B' wd' := by subst h; exact ⟨rfl, hL⟩
theorem act_ok {r : Bool} {u : Nat} {I0 I1 : Nat → Int32} {B0 B1 B2 : Nat → Nat → Int32} {w0 w1 : Int64} {x : Int32} {s' : Row} {res : CRes} (h : res = .inr (x, s')) (hL : LF I B wd I0 B0 w0) (hR : AREC r u I0 B0 I1 B1) (hw : w1 = w0) (h0 : B2 0 = s') (hj : ∀ j, j ≠ 0 → B2 j = B1 j) : ACT r u I B wd res (some (.int x)) I1 B2 w1 := by subst h; exact act_done hL hR hw h0 hj
theorem m_setSheet (d u : Nat) (hu : u ≤ 5) (hU : I 3 = nI u) (r : Bool) (hr : I 6 = bI r) (hd : 2 ≤ d) (x y : Int32) : MC g l mX3_setSheet d [.int x, .int y] m A I B wd (ACT r u I B wd (c_setSheet (B 0) x y)) := by
  intro h hM
  have hF : MF m A h h := MF.rf
  refine Ct.of [some (.ref m), some (.int x), some (.int y)] (by decide +kernel) rfl (Nat.le_of_ble_eq_true rfl) rfl rfl ?_
  refine x_iload_n (M := mX3_setSheet) (pc := 0) dX3_setSheet_0 rfl ?_
  refine x_S1 (M := mX3_setSheet) (pc := 1) (M' := mX3_isSide) q2933 kSX3_isSide dX3_setSheet_1 (m_isSide h x (d - 1)) (fun v_ h hq_ => ?_)
  obtain ⟨hv_, rfl⟩ := hq_; cases hv_
  first | with_reducible refine x_ifB_eq (M := mX3_setSheet) (pc := 4) 14 dX3_setSheet_4 (by decide) (fun c4 => ?_) (fun c4 => ?_) | with_reducible refine x_if_eqN (M := mX3_setSheet) (pc := 4) 14 dX3_setSheet_4 (by decide) (by omega) (fun c4 => ?_) (fun c4 => ?_) | refine x_if_eq (M := mX3_setSheet) (pc := 4) 14 dX3_setSheet_4 (by decide) (fun c4 => ?_) (fun c4 => ?_)
  · refine x_iconst (M := mX3_setSheet) (pc := 14) (v := (-1)) dX3_setSheet_14 (by decide) ?_
    refine x_iret (M := mX3_setSheet) (pc := 15) dX3_setSheet_15 rfl (Nat.le_refl 0) (Nat.le_refl 0) ⟨_, _, _, _, rfl, ?_, hM, hF⟩
    exact act_err (by simp [c_setSheet, *]) LF.rf
  · refine x_iload_n (M := mX3_setSheet) (pc := 7) dX3_setSheet_7 rfl ?_
    refine x_S1 (M := mX3_setSheet) (pc := 8) (M' := mX3_isSide) q2933 kSX3_isSide dX3_setSheet_8 (m_isSide h y (d - 1)) (fun v_ h hq_ => ?_)
    obtain ⟨hv_, rfl⟩ := hq_; cases hv_
    first | with_reducible refine x_ifB_ne (M := mX3_setSheet) (pc := 11) 16 dX3_setSheet_11 (by decide) (fun c11 => ?_) (fun c11 => ?_) | with_reducible refine x_if_neN (M := mX3_setSheet) (pc := 11) 16 dX3_setSheet_11 (by decide) (by omega) (fun c11 => ?_) (fun c11 => ?_) | refine x_if_ne (M := mX3_setSheet) (pc := 11) 16 dX3_setSheet_11 (by decide) (fun c11 => ?_) (fun c11 => ?_)
    · refine x_aload_n (M := mX3_setSheet) (pc := 16) dX3_setSheet_16 rfl ?_
      refine x_V0 (M := mX3_setSheet) (pc := 17) (M' := mX3_act) q2936 kVX3_act dX3_setSheet_17 (m_actR (d - 1) u hu hU r hr (by omega) h hM) (hM.is) (fun v_ h hq_ => ?_)
      obtain ⟨v_, I_, B_, wd_, hv_, hQ, hM_, hF_⟩ := hq_
      cases hv_
      replace hF := hF.tr hF_
      replace hM := hM_
      clear hM_ hF_
      obtain ⟨rfl, hR, hw⟩ := hQ
      refine x_aload_n (M := mX3_setSheet) (pc := 20) dX3_setSheet_20 rfl ?_
      refine x_get (M := mX3_setSheet) (pc := 21) kcX3 0 rfl q2835 dX3_setSheet_21 hM.1 rfl ?_
      refine x_iconst (M := mX3_setSheet) (pc := 24) (v := nI 0) dX3_setSheet_24 (by decide) ?_
      refine x_iload_n (M := mX3_setSheet) (pc := 25) dX3_setSheet_25 rfl ?_
      refine xm_iast (M := mX3_setSheet) (pc := 26) hM hF dX3_setSheet_26 (by decide) (by first | decide | (simp only [mSz] <;> omega)) (fun h hM hF => ?_)
      refine x_aload_n (M := mX3_setSheet) (pc := 27) dX3_setSheet_27 rfl ?_
      refine x_get (M := mX3_setSheet) (pc := 28) kcX3 0 rfl q2835 dX3_setSheet_28 hM.1 rfl ?_
      refine x_iconst (M := mX3_setSheet) (pc := 31) (v := nI 1) dX3_setSheet_31 (by decide) ?_
      refine x_iload_n (M := mX3_setSheet) (pc := 32) dX3_setSheet_32 rfl ?_
      refine xm_iast (M := mX3_setSheet) (pc := 33) hM hF dX3_setSheet_33 (by decide) (by first | decide | (simp only [mSz] <;> omega)) (fun h hM hF => ?_)
      refine x_aload_n (M := mX3_setSheet) (pc := 34) dX3_setSheet_34 rfl ?_
      refine x_get (M := mX3_setSheet) (pc := 35) kcX3 0 rfl q2835 dX3_setSheet_35 hM.1 rfl ?_
      refine x_iconst (M := mX3_setSheet) (pc := 38) (v := nI 2) dX3_setSheet_38 (by decide) ?_
      refine x_iconst (M := mX3_setSheet) (pc := 39) (v := nI 0) dX3_setSheet_39 (by decide) ?_
      refine xm_iast (M := mX3_setSheet) (pc := 40) hM hF dX3_setSheet_40 (by decide) (by first | decide | (simp only [mSz] <;> omega)) (fun h hM hF => ?_)
      refine x_aload_n (M := mX3_setSheet) (pc := 41) dX3_setSheet_41 rfl ?_
      refine x_get (M := mX3_setSheet) (pc := 42) kcX3 0 rfl q2835 dX3_setSheet_42 hM.1 rfl ?_
      refine x_bipush (M := mX3_setSheet) (pc := 45) (v := nI 8) dX3_setSheet_45 (by decide) ?_
      refine x_iconst (M := mX3_setSheet) (pc := 47) (v := nI 0) dX3_setSheet_47 (by decide) ?_
      refine xm_iast (M := mX3_setSheet) (pc := 48) hM hF dX3_setSheet_48 (by decide) (by first | decide | (simp only [mSz] <;> omega)) (fun h hM hF => ?_)
      refine x_aload_n (M := mX3_setSheet) (pc := 49) dX3_setSheet_49 rfl ?_
      refine x_get (M := mX3_setSheet) (pc := 50) kcX3 0 rfl q2835 dX3_setSheet_50 hM.1 rfl ?_
      refine x_bipush (M := mX3_setSheet) (pc := 53) (v := nI 9) dX3_setSheet_53 (by decide) ?_
      refine x_iconst (M := mX3_setSheet) (pc := 55) (v := nI 0) dX3_setSheet_55 (by decide) ?_
      refine xm_iast (M := mX3_setSheet) (pc := 56) hM hF dX3_setSheet_56 (by decide) (by first | decide | (simp only [mSz] <;> omega)) (fun h hM hF => ?_)
      refine x_aload_n (M := mX3_setSheet) (pc := 57) dX3_setSheet_57 rfl ?_
      refine x_get (M := mX3_setSheet) (pc := 58) kcX3 0 rfl q2835 dX3_setSheet_58 hM.1 rfl ?_
      refine x_bipush (M := mX3_setSheet) (pc := 61) (v := nI 12) dX3_setSheet_61 (by decide) ?_
      refine x_iconst (M := mX3_setSheet) (pc := 63) (v := nI 0) dX3_setSheet_63 (by decide) ?_
      refine xm_iast (M := mX3_setSheet) (pc := 64) hM hF dX3_setSheet_64 (by decide) (by first | decide | (simp only [mSz] <;> omega)) (fun h hM hF => ?_)
      refine x_aload_n (M := mX3_setSheet) (pc := 65) dX3_setSheet_65 rfl ?_
      refine x_V0 (M := mX3_setSheet) (pc := 66) (M' := mX3_noPrint) q2831 kVX3_noPrint dX3_setSheet_66 (m_noPrint (d - 1) h hM) (hM.is) (fun v_ h hq_ => ?_)
      obtain ⟨v_, I_, B_, wd_, hv_, hQ, hM_, hF_⟩ := hq_
      cases hv_
      replace hF := hF.tr hF_
      replace hM := hM_
      clear hM_ hF_
      obtain ⟨e1_, e2_, e3_, e4_⟩ := hQ; rw [e2_, e3_, e4_] at hM; subst e1_; clear e2_ e3_ e4_
      refine x_iload_n (M := mX3_setSheet) (pc := 69) dX3_setSheet_69 rfl ?_
      refine x_iload_n (M := mX3_setSheet) (pc := 70) dX3_setSheet_70 rfl ?_
      first | with_reducible refine x_imulN (M := mX3_setSheet) (pc := 71) dX3_setSheet_71 ?_ | refine x_imul (M := mX3_setSheet) (pc := 71) dX3_setSheet_71 ?_
      refine x_iret (M := mX3_setSheet) (pc := 72) dX3_setSheet_72 rfl (Nat.le_refl 0) (Nat.le_refl 0) ⟨_, _, _, _, rfl, ?_, hM, hF⟩
      exact act_ok (by simp only [c_setSheet, *]; rfl) LF.rf hR hw (by simp only [va_up_s, hR.2.1 0 (by omega)]; rfl) (fun j hj => by simp only [va_up_n _ _ hj])
    · refine x_iconst (M := mX3_setSheet) (pc := 14) (v := (-1)) dX3_setSheet_14 (by decide) ?_
      refine x_iret (M := mX3_setSheet) (pc := 15) dX3_setSheet_15 rfl (Nat.le_refl 0) (Nat.le_refl 0) ⟨_, _, _, _, rfl, ?_, hM, hF⟩
      exact act_err (by simp [c_setSheet, *]) LF.rf
theorem m_unfold (d u : Nat) (hu : u ≤ 5) (hU : I 3 = nI u) (r : Bool) (hr : I 6 = bI r) (hd : 2 ≤ d) (hW : WF (B 0)) : MC g l mX3_unfold d [] m A I B wd (ACT r u I B wd (c_unfold (B 0))) := by
  intro h hM
  have hF : MF m A h h := MF.rf
  have hn := p_cans_le hW.1.2.2.2.2.1 hW.1.2.2.2.2.2
  have h2 : B 0 2 = nI (zNf (B 0)) := hW.1.2.2.1
  refine Ct.of [some (.ref m)] (by decide +kernel) rfl (Nat.le_of_ble_eq_true rfl) rfl rfl ?_
  refine x_aload_n (M := mX3_unfold) (pc := 0) dX3_unfold_0 rfl ?_
  refine x_get (M := mX3_unfold) (pc := 1) kcX3 0 rfl q2835 dX3_unfold_1 hM.1 rfl ?_
  refine x_iconst (M := mX3_unfold) (pc := 4) (v := nI 2) dX3_unfold_4 (by decide) ?_
  refine xm_ialdV (M := mX3_unfold) (pc := 5) hM dX3_unfold_5 (h2) (by decide) (by first | decide | (simp only [mSz] <;> omega)) ?_
  first | with_reducible refine x_ifB_eq (M := mX3_unfold) (pc := 6) 16 dX3_unfold_6 (by decide) (fun c6 => ?_) (fun c6 => ?_) | with_reducible refine x_if_eqN (M := mX3_unfold) (pc := 6) 16 dX3_unfold_6 (by decide) (by omega) (fun c6 => ?_) (fun c6 => ?_) | refine x_if_eq (M := mX3_unfold) (pc := 6) 16 dX3_unfold_6 (by decide) (fun c6 => ?_) (fun c6 => ?_)
  · refine x_bipush (M := mX3_unfold) (pc := 16) (v := (-2)) dX3_unfold_16 (by decide) ?_
    refine x_iret (M := mX3_unfold) (pc := 18) dX3_unfold_18 rfl (Nat.le_refl 0) (Nat.le_refl 0) ⟨_, _, _, _, rfl, ?_, hM, hF⟩
    exact act_err (by simp [c_unfold, zHeld, *]) LF.rf
  · refine x_aload_n (M := mX3_unfold) (pc := 9) dX3_unfold_9 rfl ?_
    refine x_V0 (M := mX3_unfold) (pc := 10) (M' := mX3_isHeld) q2972 kVX3_isHeld dX3_unfold_10 (m_isHeld (d - 1) h hM) (hM.is) (fun v_ h hq_ => ?_)
    obtain ⟨v_, I_, B_, wd_, hv_, hQ, hM_, hF_⟩ := hq_
    cases hv_
    replace hF := hF.tr hF_
    replace hM := hM_
    clear hM_ hF_
    obtain ⟨e1_, e2_, e3_, e4_⟩ := hQ; rw [e2_, e3_, e4_] at hM; subst e1_; clear e2_ e3_ e4_
    first | with_reducible refine x_ifB_eq (M := mX3_unfold) (pc := 13) 19 dX3_unfold_13 (by decide) (fun c13 => ?_) (fun c13 => ?_) | with_reducible refine x_if_eqN (M := mX3_unfold) (pc := 13) 19 dX3_unfold_13 (by decide) (by omega) (fun c13 => ?_) (fun c13 => ?_) | refine x_if_eq (M := mX3_unfold) (pc := 13) 19 dX3_unfold_13 (by decide) (fun c13 => ?_) (fun c13 => ?_)
    · refine x_aload_n (M := mX3_unfold) (pc := 19) dX3_unfold_19 rfl ?_
      refine x_V0 (M := mX3_unfold) (pc := 20) (M' := mX3_act) q2936 kVX3_act dX3_unfold_20 (m_actR (d - 1) u hu hU r hr (by omega) h hM) (hM.is) (fun v_ h hq_ => ?_)
      obtain ⟨v_, I_, B_, wd_, hv_, hQ, hM_, hF_⟩ := hq_
      cases hv_
      replace hF := hF.tr hF_
      replace hM := hM_
      clear hM_ hF_
      obtain ⟨rfl, hR, hw⟩ := hQ; have hb0 := hR.2.1 0 (by omega); have h2' : B_ 0 2 = nI (zNf (B 0)) := by rw [hb0]; exact h2
      refine x_aload_n (M := mX3_unfold) (pc := 23) dX3_unfold_23 rfl ?_
      refine x_get (M := mX3_unfold) (pc := 24) kcX3 0 rfl q2835 dX3_unfold_24 hM.1 rfl ?_
      refine x_bipush (M := mX3_unfold) (pc := 27) (v := nI 86) dX3_unfold_27 (by decide) ?_
      refine x_dup2 (M := mX3_unfold) (pc := 29) dX3_unfold_29 ?_
      refine xm_iald (M := mX3_unfold) (pc := 30) hM dX3_unfold_30 (by decide) (by first | decide | (simp only [mSz] <;> omega)) ?_
      refine x_iconst (M := mX3_unfold) (pc := 31) (v := nI 1) dX3_unfold_31 (by decide) ?_
      first | with_reducible refine x_iaddN (M := mX3_unfold) (pc := 32) dX3_unfold_32 ?_ | refine x_iadd (M := mX3_unfold) (pc := 32) dX3_unfold_32 ?_
      refine xm_iast (M := mX3_unfold) (pc := 33) hM hF dX3_unfold_33 (by decide) (by first | decide | (simp only [mSz] <;> omega)) (fun h hM hF => ?_)
      refine x_aload_n (M := mX3_unfold) (pc := 34) dX3_unfold_34 rfl ?_
      refine x_get (M := mX3_unfold) (pc := 35) kcX3 0 rfl q2835 dX3_unfold_35 hM.1 rfl ?_
      refine x_iconst (M := mX3_unfold) (pc := 38) (v := nI 2) dX3_unfold_38 (by decide) ?_
      refine x_dup2 (M := mX3_unfold) (pc := 39) dX3_unfold_39 ?_
      refine xm_ialdV (M := mX3_unfold) (pc := 40) hM dX3_unfold_40 ((by simp [va_up, upd, h2'] : _ = nI (zNf (B 0)))) (by decide) (by first | decide | (simp only [mSz] <;> omega)) ?_
      refine x_iconst (M := mX3_unfold) (pc := 41) (v := nI 1) dX3_unfold_41 (by decide) ?_
      first | with_reducible refine x_isubN (M := mX3_unfold) (pc := 42) dX3_unfold_42 (by omega) ?_ | refine x_isub (M := mX3_unfold) (pc := 42) dX3_unfold_42 ?_
      refine xm_iast (M := mX3_unfold) (pc := 43) hM hF dX3_unfold_43 (by decide) (by first | decide | (simp only [mSz] <;> omega)) (fun h hM hF => ?_)
      refine x_aload_n (M := mX3_unfold) (pc := 44) dX3_unfold_44 rfl ?_
      refine x_get (M := mX3_unfold) (pc := 45) kcX3 0 rfl q2835 dX3_unfold_45 hM.1 rfl ?_
      refine x_iconst (M := mX3_unfold) (pc := 48) (v := nI 2) dX3_unfold_48 (by decide) ?_
      refine xm_ialdV (M := mX3_unfold) (pc := 49) hM dX3_unfold_49 ((by simp [va_up, upd] : _ = nI (zNf (B 0) - 1))) (by decide) (by first | decide | (simp only [mSz] <;> omega)) ?_
      refine x_iret (M := mX3_unfold) (pc := 50) dX3_unfold_50 rfl (Nat.le_refl 0) (Nat.le_refl 0) ⟨_, _, _, _, rfl, ?_, hM, hF⟩
      exact act_ok (by simp [c_unfold, zHeld, *]; rfl) LF.rf hR hw (by simp only [va_up_s, hb0]; rfl) (fun j hj => by simp only [va_up_n _ _ hj])
    · refine x_bipush (M := mX3_unfold) (pc := 16) (v := (-2)) dX3_unfold_16 (by decide) ?_
      refine x_iret (M := mX3_unfold) (pc := 18) dX3_unfold_18 rfl (Nat.le_refl 0) (Nat.le_refl 0) ⟨_, _, _, _, rfl, ?_, hM, hF⟩
      exact act_err (by simp [c_unfold, zHeld, *]) LF.rf
end MODEL8

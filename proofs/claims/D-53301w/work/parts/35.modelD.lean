section PURE6
set_option maxRecDepth 100000
def p_fnow (s : Row) : Nat → Int32
  | 0 => 0
  | n + 1 => 10 * p_fnow s n + s (3 + n)
def q_cnt (s : Row) (u len : Nat) : Nat → Int32
  | 0 => s 0 | 1 => s 1 | 2 => s 2 | 3 => nI (2 ^ zNf s) | 4 => p_fnow s (zNf s) | 5 => bI (zBook s) | 6 => s 8 | 7 => nI (p_ones 16 (zN s 9)) | 8 => s 12 | 9 => s 37 | 10 => s 154 + s 155 | 11 => nI u | 12 => nI len | 13 => s 11 | 14 => s 10 | 15 => s 7 | _ => -1
def q_count (s : Row) (u len : Nat) (x : Int32) : Int32 := if bIn x 0 15 then q_cnt s u len x.toNatClampNeg else -1
def q_side (s : Row) (r c sd w : Int32) : Int32 := if (zCell s r c && bIn sd 0 1 && bIn w 0 1) = false then -1 else if w = 1 then s (122 + zAt s r c sd) else zNone (s (90 + zAt s r c sd))
def q_layT (wi : Nat) (x : Lay) : Nat → Int32
  | 0 => nI (x.1 / wi) | 1 => nI (x.1 % wi) | 2 => bI (p_side x) | 3 => bI x.2.2 | _ => bI x.2.1
def q_layer (s : Row) (p y w : Int32) : Int32 := if (bIn p 0 (nI ((zLay s).1 * (zLay s).2.1) - 1) && bIn y 0 (nI (2 ^ zNf s) - 1) && bIn w 0 4) = false then -1 else q_layT (zWi s) (zLy s (2 ^ zNf s * p.toNatClampNeg + y.toNatClampNeg)) w.toNatClampNeg
abbrev zN16 (s : Row) : Nat := zHi s * zWi s
def zShut (s : Row) (o : Nat) : Nat := p_shut (zN s 8) (p_se (zN s 7)) (zWi s) (zLy s) (zN16 s) o
def q_opening (s : Row) (o w : Int32) : Int32 := if zBook s = false then -2 else if (bIn o 0 (nI (zN16 s)) && bIn w 0 2) = false then -1 else
  if w = 0 then bI (decide (zShut s o.toNatClampNeg ≠ 0)) else if w = 1 then nI (zShut s o.toNatClampNeg) else if zShut s o.toNatClampNeg = 0 then (if o = 0 ∨ o = nI (zN16 s) then 1 else 2) * s 11 else 0
def q_hanging (s : Row) (e : Int32) : Int32 := if zBook s = false then -2 else if bIn e 0 3 = false then -1 else if (zN s 8).testBit e.toNatClampNeg then 0 else nI (p_prs (zWi s) (zLy s) (zN16 s) e.toNatClampNeg)
def q_tog (s : Row) (e : Option Nat) : Int32 := match e with
  | none => 0
  | some k => if (zN s 8).testBit k then 0 else nI (2 ^ k)
def q_together (s : Row) (a b : Int32) : Int32 := if zBook s = false then -2 else if (bIn a 0 (nI (zN16 s) - 1) && bIn b 0 (nI (zN16 s) - 1)) = false ∨ a = b then -1 else q_tog s (p_edge (zWi s) (zLy s) a.toNatClampNeg b.toNatClampNeg)
end PURE6
section MODELD
set_option maxRecDepth 100000
variable {g : xG} {l : Launch} {m : Nat} {A : Nat → Nat} {I : Nat → Int32} {B : Nat → Nat → Int32} {wd : Int64}
/-- the main state stays -/
def QF (I : Nat → Int32) (B : Nat → Nat → Int32) (v0 : Int32) : Option Value → (Nat → Int32) → (Nat → Nat → Int32) → Int64 → Prop := fun v I' B' _ => v = some (.int v0) ∧ I' 3 = I 3 ∧ I' 4 = I 4 ∧ I' 6 = I 6 ∧ B' 0 = B 0 ∧ B' 1 = B 1 ∧ B' 5 = B 5
theorem QF.lf {I' : Nat → Int32} {B' : Nat → Nat → Int32} {wd' : Int64} {v0 : Int32} {v : Option Value} (hv : v = some (.int v0)) (h : LF I B wd I' B' wd') : QF I B v0 v I' B' wd' :=
  ⟨hv, h.1 3 (by omega) (by omega) (by omega), h.1 4 (by omega) (by omega) (by omega), h.1 6 (by omega) (by omega) (by omega), h.2.1 0 (by omega), h.2.1 1 (by omega), h.2.1 5 (by omega)⟩
theorem m_foldsNow_l (d nf : Nat) (hnf : nf ≤ 4) (h2 : B 0 2 = nI nf) (h : xH) (hM : MR g h m A I B wd) (Q : xO → xH → Prop) (hE : Q (.inl (some (.int (p_fnow (B 0) nf)))) h) : ∀ q k, k + q = nf → X g l mX3_foldsNow d 0 0 Q 4 [some (.ref m), some (.int (p_fnow (B 0) k)), some (.int (nI k))] [] h 0 0 := by
  intro q
  induction q with
  | zero =>
    intro k hk
    have : k = nf := by omega
    subst this
    refine x_iload_n (M := mX3_foldsNow) (pc := 4) dX3_foldsNow_4 rfl ?_
    refine x_aload_n (M := mX3_foldsNow) (pc := 5) dX3_foldsNow_5 rfl ?_
    refine x_get (M := mX3_foldsNow) (pc := 6) kcX3 0 rfl q2835 dX3_foldsNow_6 hM.1 rfl ?_
    refine x_iconst (M := mX3_foldsNow) (pc := 9) (v := nI 2) dX3_foldsNow_9 (by decide) ?_
    refine xm_ialdV (M := mX3_foldsNow) (pc := 10) hM dX3_foldsNow_10 (h2) (by decide) (by first | decide | (simp only [mSz] <;> omega)) ?_
    first | with_reducible refine x_icmp_geN (M := mX3_foldsNow) (pc := 11) 34 dX3_foldsNow_11 (by decide) (by omega) (by omega) (fun c1 => ?_) (fun c1 => ?_) | refine x_icmp_ge (M := mX3_foldsNow) (pc := 11) 34 dX3_foldsNow_11 (by decide) (fun c1 => ?_) (fun c1 => ?_)
    · refine x_iload_n (M := mX3_foldsNow) (pc := 34) dX3_foldsNow_34 rfl ?_
      exact x_iret (pc := 35) dX3_foldsNow_35 rfl (Nat.le_refl 0) (Nat.le_refl 0) hE
    · omega
  | succ q ih =>
    intro k hk
    refine x_iload_n (M := mX3_foldsNow) (pc := 4) dX3_foldsNow_4 rfl ?_
    refine x_aload_n (M := mX3_foldsNow) (pc := 5) dX3_foldsNow_5 rfl ?_
    refine x_get (M := mX3_foldsNow) (pc := 6) kcX3 0 rfl q2835 dX3_foldsNow_6 hM.1 rfl ?_
    refine x_iconst (M := mX3_foldsNow) (pc := 9) (v := nI 2) dX3_foldsNow_9 (by decide) ?_
    refine xm_ialdV (M := mX3_foldsNow) (pc := 10) hM dX3_foldsNow_10 (h2) (by decide) (by first | decide | (simp only [mSz] <;> omega)) ?_
    first | with_reducible refine x_icmp_geN (M := mX3_foldsNow) (pc := 11) 34 dX3_foldsNow_11 (by decide) (by omega) (by omega) (fun c1 => ?_) (fun c1 => ?_) | refine x_icmp_ge (M := mX3_foldsNow) (pc := 11) 34 dX3_foldsNow_11 (by decide) (fun c1 => ?_) (fun c1 => ?_)
    · omega
    · refine x_bipush (M := mX3_foldsNow) (pc := 14) (v := nI 10) dX3_foldsNow_14 (by decide) ?_
      refine x_iload_n (M := mX3_foldsNow) (pc := 16) dX3_foldsNow_16 rfl ?_
      first | with_reducible refine x_imulN (M := mX3_foldsNow) (pc := 17) dX3_foldsNow_17 ?_ | refine x_imul (M := mX3_foldsNow) (pc := 17) dX3_foldsNow_17 ?_
      refine x_aload_n (M := mX3_foldsNow) (pc := 18) dX3_foldsNow_18 rfl ?_
      refine x_get (M := mX3_foldsNow) (pc := 19) kcX3 0 rfl q2835 dX3_foldsNow_19 hM.1 rfl ?_
      refine x_iconst (M := mX3_foldsNow) (pc := 22) (v := nI 3) dX3_foldsNow_22 (by decide) ?_
      refine x_iload_n (M := mX3_foldsNow) (pc := 23) dX3_foldsNow_23 rfl ?_
      first | with_reducible refine x_iaddN (M := mX3_foldsNow) (pc := 24) dX3_foldsNow_24 ?_ | refine x_iadd (M := mX3_foldsNow) (pc := 24) dX3_foldsNow_24 ?_
      refine xm_iald (M := mX3_foldsNow) (pc := 25) hM dX3_foldsNow_25 (by decide) (by first | decide | (simp only [mSz] <;> omega)) ?_
      first | with_reducible refine x_iaddN (M := mX3_foldsNow) (pc := 26) dX3_foldsNow_26 ?_ | refine x_iadd (M := mX3_foldsNow) (pc := 26) dX3_foldsNow_26 ?_
      refine x_istore1 (M := mX3_foldsNow) (pc := 27) dX3_foldsNow_27 ?_
      first | refine x_iinc2N (M := mX3_foldsNow) (pc := 28) (c := 1) dX3_foldsNow_28 oI1 ?_ | refine x_iinc2 (M := mX3_foldsNow) (pc := 28) (c := 1) dX3_foldsNow_28 (by decide) ?_
      refine x_goto (M := mX3_foldsNow) (pc := 31) 4 dX3_foldsNow_31 (by decide) ?_
      exact ih (k + 1) (by omega)
theorem m_foldsNow (d nf : Nat) (hnf : nf ≤ 4) (h2 : B 0 2 = nI nf) : MCr g l mX3_foldsNow d [] m A I B wd (some (.int (p_fnow (B 0) nf))) := by
  intro h hM
  refine Ct.of [some (.ref m), none, none] (by decide +kernel) rfl (Nat.le_of_ble_eq_true rfl) rfl rfl ?_
  refine x_iconst (M := mX3_foldsNow) (pc := 0) (v := nI 0) dX3_foldsNow_0 (by decide) ?_
  refine x_istore1 (M := mX3_foldsNow) (pc := 1) dX3_foldsNow_1 ?_
  refine x_iconst (M := mX3_foldsNow) (pc := 2) (v := nI 0) dX3_foldsNow_2 (by decide) ?_
  refine x_istore2 (M := mX3_foldsNow) (pc := 3) dX3_foldsNow_3 ?_
  exact m_foldsNow_l d nf hnf h2 h hM _ ⟨rfl, rfl⟩ nf 0 (Nat.zero_add _)
theorem sw_cases {x : Int32} (n : Nat) (hn : n < 2 ^ 31) : (∃ k, k ≤ n ∧ x = nI k) ∨ (bIn x 0 (nI n) = false ∧ (x.toInt < 0 ∨ (n : Int) < x.toInt)) := by
  rcases Decidable.em (0 ≤ x.toInt ∧ x.toInt ≤ n) with h | h
  · left
    have h0 : ¬ x < 0 := by rw [Int32.lt_iff_toInt_lt, Int32.toInt_zero]; omega
    obtain ⟨j, hj, rfl⟩ := nI_of h0
    rw [nI_toInt hj] at h
    exact ⟨j, by omega, rfl⟩
  · right
    refine ⟨?_, by omega⟩
    unfold bIn
    rw [decide_eq_false]
    rw [Int32.le_iff_toInt_le, Int32.le_iff_toInt_le, Int32.toInt_zero, nI_toInt hn]
    exact h
theorem m_count (d u len : Nat) (hu : I 3 = nI u) (hlen : I 4 = nI len) (hd : 4 ≤ d) (hW : WF (B 0)) (x : Int32) : MC g l mX3_count d [.int x] m A I B wd (QF I B (q_count (B 0) u len x)) := by
  intro h hM
  have hF : MF m A h h := MF.rf
  have hn := p_cans_le hW.1.2.2.2.2.1 hW.1.2.2.2.2.2
  have h2 : B 0 2 = nI (zNf (B 0)) := hW.1.2.2.1
  obtain ⟨h9, h9b⟩ := hW.2.2.2.1
  refine Ct.of [some (.ref m), some (.int x)] (by decide +kernel) rfl (Nat.le_of_ble_eq_true rfl) rfl rfl ?_
  refine x_iload_n (M := mX3_count) (pc := 0) dX3_count_0 rfl ?_
  rcases sw_cases (x := x) 15 (by omega) with ⟨k, hk, rfl⟩ | ⟨hx, hx2⟩
  · have hq : ∀ v, v = q_cnt (B 0) u len k → some (Value.int v) = some (.int (q_count (B 0) u len (nI k))) := fun v hv => by
      rw [q_count, show bIn (nI k) 0 15 = true from decide_eq_true ((in_nat (a := 0) (b := 15) (by omega) (by omega) (by omega)).mpr (by omega)), nI_clamp (by omega), hv]; rfl
    rcases (show k = 0 ∨ k = 1 ∨ k = 2 ∨ k = 3 ∨ k = 4 ∨ k = 5 ∨ k = 6 ∨ k = 7 ∨ k = 8 ∨ k = 9 ∨ k = 10 ∨ k = 11 ∨ k = 12 ∨ k = 13 ∨ k = 14 ∨ k = 15 by omega) with rfl | rfl | rfl | rfl | rfl | rfl | rfl | rfl | rfl | rfl | rfl | rfl | rfl | rfl | rfl | rfl
    · refine x_tableIn (M := mX3_count) (pc := 1) (off := 79) 80 dX3_count_1 (by decide) (by decide) rfl (by decide) ?_
      refine x_aload_n (M := mX3_count) (pc := 80) dX3_count_80 rfl ?_
      refine x_get (M := mX3_count) (pc := 81) kcX3 0 rfl q2835 dX3_count_81 hM.1 rfl ?_
      refine x_iconst (M := mX3_count) (pc := 84) (v := nI 0) dX3_count_84 (by decide) ?_
      refine xm_iald (M := mX3_count) (pc := 85) hM dX3_count_85 (by decide) (by first | decide | (simp only [mSz] <;> omega)) ?_
      refine x_iret (M := mX3_count) (pc := 86) dX3_count_86 rfl (Nat.le_refl 0) (Nat.le_refl 0) ⟨_, _, _, _, rfl, ?_, hM, hF⟩
      exact QF.lf (hq _ rfl) LF.rf
    · refine x_tableIn (M := mX3_count) (pc := 1) (off := 86) 87 dX3_count_1 (by decide) (by decide) rfl (by decide) ?_
      refine x_aload_n (M := mX3_count) (pc := 87) dX3_count_87 rfl ?_
      refine x_get (M := mX3_count) (pc := 88) kcX3 0 rfl q2835 dX3_count_88 hM.1 rfl ?_
      refine x_iconst (M := mX3_count) (pc := 91) (v := nI 1) dX3_count_91 (by decide) ?_
      refine xm_iald (M := mX3_count) (pc := 92) hM dX3_count_92 (by decide) (by first | decide | (simp only [mSz] <;> omega)) ?_
      refine x_iret (M := mX3_count) (pc := 93) dX3_count_93 rfl (Nat.le_refl 0) (Nat.le_refl 0) ⟨_, _, _, _, rfl, ?_, hM, hF⟩
      exact QF.lf (hq _ rfl) LF.rf
    · refine x_tableIn (M := mX3_count) (pc := 1) (off := 93) 94 dX3_count_1 (by decide) (by decide) rfl (by decide) ?_
      refine x_aload_n (M := mX3_count) (pc := 94) dX3_count_94 rfl ?_
      refine x_get (M := mX3_count) (pc := 95) kcX3 0 rfl q2835 dX3_count_95 hM.1 rfl ?_
      refine x_iconst (M := mX3_count) (pc := 98) (v := nI 2) dX3_count_98 (by decide) ?_
      refine xm_iald (M := mX3_count) (pc := 99) hM dX3_count_99 (by decide) (by first | decide | (simp only [mSz] <;> omega)) ?_
      refine x_iret (M := mX3_count) (pc := 100) dX3_count_100 rfl (Nat.le_refl 0) (Nat.le_refl 0) ⟨_, _, _, _, rfl, ?_, hM, hF⟩
      exact QF.lf (hq _ rfl) LF.rf
    · refine x_tableIn (M := mX3_count) (pc := 1) (off := 100) 101 dX3_count_1 (by decide) (by decide) rfl (by decide) ?_
      refine x_iconst (M := mX3_count) (pc := 101) (v := nI 1) dX3_count_101 (by decide) ?_
      refine x_aload_n (M := mX3_count) (pc := 102) dX3_count_102 rfl ?_
      refine x_get (M := mX3_count) (pc := 103) kcX3 0 rfl q2835 dX3_count_103 hM.1 rfl ?_
      refine x_iconst (M := mX3_count) (pc := 106) (v := nI 2) dX3_count_106 (by decide) ?_
      refine xm_ialdV (M := mX3_count) (pc := 107) hM dX3_count_107 (h2) (by decide) (by first | decide | (simp only [mSz] <;> omega)) ?_
      refine x_ishl (M := mX3_count) (pc := 108) dX3_count_108 ?_
      refine x_val (M := mX3_count) (pc := 109) (nI_one _ (by omega)) ?_
      refine x_iret (M := mX3_count) (pc := 109) dX3_count_109 rfl (Nat.le_refl 0) (Nat.le_refl 0) ⟨_, _, _, _, rfl, ?_, hM, hF⟩
      exact QF.lf (hq _ rfl) LF.rf
    · refine x_tableIn (M := mX3_count) (pc := 1) (off := 109) 110 dX3_count_1 (by decide) (by decide) rfl (by decide) ?_
      refine x_aload_n (M := mX3_count) (pc := 110) dX3_count_110 rfl ?_
      refine x_V0 (M := mX3_count) (pc := 111) (M' := mX3_foldsNow) q3180 kVX3_foldsNow dX3_count_111 (m_foldsNow (d - 1) _ hn h2 h hM) (hM.is) (fun v_ h hq_ => ?_)
      obtain ⟨hv_, rfl⟩ := hq_; cases hv_
      refine x_iret (M := mX3_count) (pc := 114) dX3_count_114 rfl (Nat.le_refl 0) (Nat.le_refl 0) ⟨_, _, _, _, rfl, ?_, hM, hF⟩
      exact QF.lf (hq _ rfl) LF.rf
    · refine x_tableIn (M := mX3_count) (pc := 1) (off := 114) 115 dX3_count_1 (by decide) (by decide) rfl (by decide) ?_
      refine x_aload_n (M := mX3_count) (pc := 115) dX3_count_115 rfl ?_
      refine x_V0 (M := mX3_count) (pc := 116) (M' := mX3_isBooklet) q3023 kVX3_isBooklet dX3_count_116 (m_isBooklet (d - 1) _ _ _ _ (by omega) hW.1 h hM) (hM.is) (fun v_ h hq_ => ?_)
      obtain ⟨v_, I_, B_, wd_, hv_, hQ, hM_, hF_⟩ := hq_
      cases hv_
      replace hF := hF.tr hF_
      replace hM := hM_
      clear hM_ hF_
      obtain ⟨rfl, hL, hY⟩ := hQ
      first | with_reducible refine x_ifB_eq (M := mX3_count) (pc := 119) 126 dX3_count_119 (by decide) (fun c119 => ?_) (fun c119 => ?_) | with_reducible refine x_if_eqN (M := mX3_count) (pc := 119) 126 dX3_count_119 (by decide) (by omega) (fun c119 => ?_) (fun c119 => ?_) | refine x_if_eq (M := mX3_count) (pc := 119) 126 dX3_count_119 (by decide) (fun c119 => ?_) (fun c119 => ?_)
      · refine x_iconst (M := mX3_count) (pc := 126) (v := nI 0) dX3_count_126 (by decide) ?_
        refine x_iret (M := mX3_count) (pc := 127) dX3_count_127 rfl (Nat.le_refl 0) (Nat.le_refl 0) ⟨_, _, _, _, rfl, ?_, hM, hF⟩
        exact QF.lf (hq _ (by show _ = bI (zBook (B 0)); rw [zBook, c119]; rfl)) hL
      · refine x_iconst (M := mX3_count) (pc := 122) (v := nI 1) dX3_count_122 (by decide) ?_
        refine x_goto (M := mX3_count) (pc := 123) 127 dX3_count_123 (by decide) ?_
        refine x_iret (M := mX3_count) (pc := 127) dX3_count_127 rfl (Nat.le_refl 0) (Nat.le_refl 0) ⟨_, _, _, _, rfl, ?_, hM, hF⟩
        exact QF.lf (hq _ (by show _ = bI (zBook (B 0)); rw [zBook, c119]; rfl)) hL
    · refine x_tableIn (M := mX3_count) (pc := 1) (off := 127) 128 dX3_count_1 (by decide) (by decide) rfl (by decide) ?_
      refine x_aload_n (M := mX3_count) (pc := 128) dX3_count_128 rfl ?_
      refine x_get (M := mX3_count) (pc := 129) kcX3 0 rfl q2835 dX3_count_129 hM.1 rfl ?_
      refine x_bipush (M := mX3_count) (pc := 132) (v := nI 8) dX3_count_132 (by decide) ?_
      refine xm_iald (M := mX3_count) (pc := 134) hM dX3_count_134 (by decide) (by first | decide | (simp only [mSz] <;> omega)) ?_
      refine x_iret (M := mX3_count) (pc := 135) dX3_count_135 rfl (Nat.le_refl 0) (Nat.le_refl 0) ⟨_, _, _, _, rfl, ?_, hM, hF⟩
      exact QF.lf (hq _ rfl) LF.rf
    · refine x_tableIn (M := mX3_count) (pc := 1) (off := 135) 136 dX3_count_1 (by decide) (by decide) rfl (by decide) ?_
      refine x_aload_n (M := mX3_count) (pc := 136) dX3_count_136 rfl ?_
      refine x_get (M := mX3_count) (pc := 137) kcX3 0 rfl q2835 dX3_count_137 hM.1 rfl ?_
      refine x_bipush (M := mX3_count) (pc := 140) (v := nI 9) dX3_count_140 (by decide) ?_
      refine xm_ialdV (M := mX3_count) (pc := 142) hM dX3_count_142 (h9) (by decide) (by first | decide | (simp only [mSz] <;> omega)) ?_
      refine x_S1 (M := mX3_count) (pc := 143) (M' := mX3_ones) q3043 kSX3_ones dX3_count_143 (m_ones h (zN (B 0) 9) (d - 1) (by omega)) (fun v_ h hq_ => ?_)
      obtain ⟨hv_, rfl⟩ := hq_; cases hv_
      refine x_iret (M := mX3_count) (pc := 146) dX3_count_146 rfl (Nat.le_refl 0) (Nat.le_refl 0) ⟨_, _, _, _, rfl, ?_, hM, hF⟩
      exact QF.lf (hq _ rfl) LF.rf
    · refine x_tableIn (M := mX3_count) (pc := 1) (off := 146) 147 dX3_count_1 (by decide) (by decide) rfl (by decide) ?_
      refine x_aload_n (M := mX3_count) (pc := 147) dX3_count_147 rfl ?_
      refine x_get (M := mX3_count) (pc := 148) kcX3 0 rfl q2835 dX3_count_148 hM.1 rfl ?_
      refine x_bipush (M := mX3_count) (pc := 151) (v := nI 12) dX3_count_151 (by decide) ?_
      refine xm_iald (M := mX3_count) (pc := 153) hM dX3_count_153 (by decide) (by first | decide | (simp only [mSz] <;> omega)) ?_
      refine x_iret (M := mX3_count) (pc := 154) dX3_count_154 rfl (Nat.le_refl 0) (Nat.le_refl 0) ⟨_, _, _, _, rfl, ?_, hM, hF⟩
      exact QF.lf (hq _ rfl) LF.rf
    · refine x_tableIn (M := mX3_count) (pc := 1) (off := 154) 155 dX3_count_1 (by decide) (by decide) rfl (by decide) ?_
      refine x_aload_n (M := mX3_count) (pc := 155) dX3_count_155 rfl ?_
      refine x_get (M := mX3_count) (pc := 156) kcX3 0 rfl q2835 dX3_count_156 hM.1 rfl ?_
      refine x_bipush (M := mX3_count) (pc := 159) (v := nI 37) dX3_count_159 (by decide) ?_
      refine xm_iald (M := mX3_count) (pc := 161) hM dX3_count_161 (by decide) (by first | decide | (simp only [mSz] <;> omega)) ?_
      refine x_iret (M := mX3_count) (pc := 162) dX3_count_162 rfl (Nat.le_refl 0) (Nat.le_refl 0) ⟨_, _, _, _, rfl, ?_, hM, hF⟩
      exact QF.lf (hq _ rfl) LF.rf
    · refine x_tableIn (M := mX3_count) (pc := 1) (off := 162) 163 dX3_count_1 (by decide) (by decide) rfl (by decide) ?_
      refine x_aload_n (M := mX3_count) (pc := 163) dX3_count_163 rfl ?_
      refine x_get (M := mX3_count) (pc := 164) kcX3 0 rfl q2835 dX3_count_164 hM.1 rfl ?_
      refine x_sipush (M := mX3_count) (pc := 167) (v := nI 154) dX3_count_167 (by decide) ?_
      refine xm_iald (M := mX3_count) (pc := 170) hM dX3_count_170 (by decide) (by first | decide | (simp only [mSz] <;> omega)) ?_
      refine x_aload_n (M := mX3_count) (pc := 171) dX3_count_171 rfl ?_
      refine x_get (M := mX3_count) (pc := 172) kcX3 0 rfl q2835 dX3_count_172 hM.1 rfl ?_
      refine x_sipush (M := mX3_count) (pc := 175) (v := nI 155) dX3_count_175 (by decide) ?_
      refine xm_iald (M := mX3_count) (pc := 178) hM dX3_count_178 (by decide) (by first | decide | (simp only [mSz] <;> omega)) ?_
      first | with_reducible refine x_iaddN (M := mX3_count) (pc := 179) dX3_count_179 ?_ | refine x_iadd (M := mX3_count) (pc := 179) dX3_count_179 ?_
      refine x_iret (M := mX3_count) (pc := 180) dX3_count_180 rfl (Nat.le_refl 0) (Nat.le_refl 0) ⟨_, _, _, _, rfl, ?_, hM, hF⟩
      exact QF.lf (hq _ rfl) LF.rf
    · refine x_tableIn (M := mX3_count) (pc := 1) (off := 180) 181 dX3_count_1 (by decide) (by decide) rfl (by decide) ?_
      refine x_aload_n (M := mX3_count) (pc := 181) dX3_count_181 rfl ?_
      refine x_get (M := mX3_count) (pc := 182) kcX3 3 rfl q2838 dX3_count_182 hM.1 rfl ?_
      refine x_val (M := mX3_count) (pc := 185) (hu) ?_
      refine x_iret (M := mX3_count) (pc := 185) dX3_count_185 rfl (Nat.le_refl 0) (Nat.le_refl 0) ⟨_, _, _, _, rfl, ?_, hM, hF⟩
      exact QF.lf (hq _ rfl) LF.rf
    · refine x_tableIn (M := mX3_count) (pc := 1) (off := 185) 186 dX3_count_1 (by decide) (by decide) rfl (by decide) ?_
      refine x_aload_n (M := mX3_count) (pc := 186) dX3_count_186 rfl ?_
      refine x_get (M := mX3_count) (pc := 187) kcX3 4 rfl q2839 dX3_count_187 hM.1 rfl ?_
      refine x_val (M := mX3_count) (pc := 190) (hlen) ?_
      refine x_iret (M := mX3_count) (pc := 190) dX3_count_190 rfl (Nat.le_refl 0) (Nat.le_refl 0) ⟨_, _, _, _, rfl, ?_, hM, hF⟩
      exact QF.lf (hq _ rfl) LF.rf
    · refine x_tableIn (M := mX3_count) (pc := 1) (off := 190) 191 dX3_count_1 (by decide) (by decide) rfl (by decide) ?_
      refine x_aload_n (M := mX3_count) (pc := 191) dX3_count_191 rfl ?_
      refine x_get (M := mX3_count) (pc := 192) kcX3 0 rfl q2835 dX3_count_192 hM.1 rfl ?_
      refine x_bipush (M := mX3_count) (pc := 195) (v := nI 11) dX3_count_195 (by decide) ?_
      refine xm_iald (M := mX3_count) (pc := 197) hM dX3_count_197 (by decide) (by first | decide | (simp only [mSz] <;> omega)) ?_
      refine x_iret (M := mX3_count) (pc := 198) dX3_count_198 rfl (Nat.le_refl 0) (Nat.le_refl 0) ⟨_, _, _, _, rfl, ?_, hM, hF⟩
      exact QF.lf (hq _ rfl) LF.rf
    · refine x_tableIn (M := mX3_count) (pc := 1) (off := 198) 199 dX3_count_1 (by decide) (by decide) rfl (by decide) ?_
      refine x_aload_n (M := mX3_count) (pc := 199) dX3_count_199 rfl ?_
      refine x_get (M := mX3_count) (pc := 200) kcX3 0 rfl q2835 dX3_count_200 hM.1 rfl ?_
      refine x_bipush (M := mX3_count) (pc := 203) (v := nI 10) dX3_count_203 (by decide) ?_
      refine xm_iald (M := mX3_count) (pc := 205) hM dX3_count_205 (by decide) (by first | decide | (simp only [mSz] <;> omega)) ?_
      refine x_iret (M := mX3_count) (pc := 206) dX3_count_206 rfl (Nat.le_refl 0) (Nat.le_refl 0) ⟨_, _, _, _, rfl, ?_, hM, hF⟩
      exact QF.lf (hq _ rfl) LF.rf
    · refine x_tableIn (M := mX3_count) (pc := 1) (off := 206) 207 dX3_count_1 (by decide) (by decide) rfl (by decide) ?_
      refine x_aload_n (M := mX3_count) (pc := 207) dX3_count_207 rfl ?_
      refine x_get (M := mX3_count) (pc := 208) kcX3 0 rfl q2835 dX3_count_208 hM.1 rfl ?_
      refine x_bipush (M := mX3_count) (pc := 211) (v := nI 7) dX3_count_211 (by decide) ?_
      refine xm_iald (M := mX3_count) (pc := 213) hM dX3_count_213 (by decide) (by first | decide | (simp only [mSz] <;> omega)) ?_
      refine x_iret (M := mX3_count) (pc := 214) dX3_count_214 rfl (Nat.le_refl 0) (Nat.le_refl 0) ⟨_, _, _, _, rfl, ?_, hM, hF⟩
      exact QF.lf (hq _ rfl) LF.rf
  · refine x_tableOut (M := mX3_count) (pc := 1) 215 dX3_count_1 (by exact hx2) (by decide) ?_
    refine x_iconst (M := mX3_count) (pc := 215) (v := (-1)) dX3_count_215 (by decide) ?_
    refine x_iret (M := mX3_count) (pc := 216) dX3_count_216 rfl (Nat.le_refl 0) (Nat.le_refl 0) ⟨_, _, _, _, rfl, ?_, hM, hF⟩
    exact QF.lf (by rw [q_count, show bIn x 0 15 = false from hx]; rfl) LF.rf
theorem m_side (d : Nat) (hd : 2 ≤ d) (hW : WF (B 0)) (x y z w : Int32) : MC g l mX3_side d [.int x, .int y, .int z, .int w] m A I B wd (QF I B (q_side (B 0) x y z w)) := by
  intro h hM
  have hF : MF m A h h := MF.rf
  have hb := p_ok_b hW.1.2.2.2.2.1
  refine Ct.of [some (.ref m), some (.int x), some (.int y), some (.int z), some (.int w), none] (by decide +kernel) rfl (Nat.le_of_ble_eq_true rfl) rfl rfl ?_
  refine x_aload_n (M := mX3_side) (pc := 0) dX3_side_0 rfl ?_
  refine x_iload_n (M := mX3_side) (pc := 1) dX3_side_1 rfl ?_
  refine x_iload_n (M := mX3_side) (pc := 2) dX3_side_2 rfl ?_
  refine x_V2 (M := mX3_side) (pc := 3) (M' := mX3_isCell) q2988 kVX3_isCell dX3_side_3 (m_isCell (d - 1) x y (by omega) h hM) (hM.is) (fun v_ h hq_ => ?_)
  obtain ⟨hv_, rfl⟩ := hq_; cases hv_
  first | with_reducible refine x_ifB_eq (M := mX3_side) (pc := 6) 30 dX3_side_6 (by decide) (fun c6 => ?_) (fun c6 => ?_) | with_reducible refine x_if_eqN (M := mX3_side) (pc := 6) 30 dX3_side_6 (by decide) (by omega) (fun c6 => ?_) (fun c6 => ?_) | refine x_if_eq (M := mX3_side) (pc := 6) 30 dX3_side_6 (by decide) (fun c6 => ?_) (fun c6 => ?_)
  · refine x_iconst (M := mX3_side) (pc := 30) (v := (-1)) dX3_side_30 (by decide) ?_
    refine x_iret (M := mX3_side) (pc := 31) dX3_side_31 rfl (Nat.le_refl 0) (Nat.le_refl 0) ⟨_, _, _, _, rfl, ?_, hM, hF⟩
    exact QF.lf (by simp [q_side, *]) LF.rf
  refine x_iload_n (M := mX3_side) (pc := 9) dX3_side_9 rfl ?_
  refine x_i2l (M := mX3_side) (pc := 10) dX3_side_10 ?_
  refine x_lconst (M := mX3_side) (pc := 11) (v := 0) dX3_side_11 (by decide) ?_
  refine x_lconst (M := mX3_side) (pc := 12) (v := 1) dX3_side_12 (by decide) ?_
  refine x_S3 (M := mX3_side) (pc := 13) (M' := mX3_in) q2949 kSX3_in dX3_side_13 (m_inB h z 0 1 0 1 (by decide) (by decide) (d - 1)) (fun v_ h hq_ => ?_)
  obtain ⟨hv_, rfl⟩ := hq_; cases hv_
  first | with_reducible refine x_ifB_eq (M := mX3_side) (pc := 16) 30 dX3_side_16 (by decide) (fun c16 => ?_) (fun c16 => ?_) | with_reducible refine x_if_eqN (M := mX3_side) (pc := 16) 30 dX3_side_16 (by decide) (by omega) (fun c16 => ?_) (fun c16 => ?_) | refine x_if_eq (M := mX3_side) (pc := 16) 30 dX3_side_16 (by decide) (fun c16 => ?_) (fun c16 => ?_)
  · refine x_iconst (M := mX3_side) (pc := 30) (v := (-1)) dX3_side_30 (by decide) ?_
    refine x_iret (M := mX3_side) (pc := 31) dX3_side_31 rfl (Nat.le_refl 0) (Nat.le_refl 0) ⟨_, _, _, _, rfl, ?_, hM, hF⟩
    exact QF.lf (by simp [q_side, *]) LF.rf
  refine x_iload (M := mX3_side) (pc := 19) dX3_side_19 rfl ?_
  refine x_i2l (M := mX3_side) (pc := 21) dX3_side_21 ?_
  refine x_lconst (M := mX3_side) (pc := 22) (v := 0) dX3_side_22 (by decide) ?_
  refine x_lconst (M := mX3_side) (pc := 23) (v := 1) dX3_side_23 (by decide) ?_
  refine x_S3 (M := mX3_side) (pc := 24) (M' := mX3_in) q2949 kSX3_in dX3_side_24 (m_inB h w 0 1 0 1 (by decide) (by decide) (d - 1)) (fun v_ h hq_ => ?_)
  obtain ⟨hv_, rfl⟩ := hq_; cases hv_
  first | with_reducible refine x_ifB_ne (M := mX3_side) (pc := 27) 32 dX3_side_27 (by decide) (fun c27 => ?_) (fun c27 => ?_) | with_reducible refine x_if_neN (M := mX3_side) (pc := 27) 32 dX3_side_27 (by decide) (by omega) (fun c27 => ?_) (fun c27 => ?_) | refine x_if_ne (M := mX3_side) (pc := 27) 32 dX3_side_27 (by decide) (fun c27 => ?_) (fun c27 => ?_)
  rotate_left
  · refine x_iconst (M := mX3_side) (pc := 30) (v := (-1)) dX3_side_30 (by decide) ?_
    refine x_iret (M := mX3_side) (pc := 31) dX3_side_31 rfl (Nat.le_refl 0) (Nat.le_refl 0) ⟨_, _, _, _, rfl, ?_, hM, hF⟩
    exact QF.lf (by simp [q_side, *]) LF.rf
  skip
  obtain ⟨a, b, rfl, rfl, ha, hb'⟩ := zCell_n hW c6
  obtain ⟨c, rfl, -, hc⟩ := bIn_n (a := 0) (b := 1) (by omega) (by omega) c16
  have hlt := cell_lt ha hb'
  have hat : zAt (B 0) (nI a) (nI b) (nI c) = 2 * (zWi (B 0) * a + b) + c := by rw [zAt, nI_clamp (by omega), nI_clamp (by omega), nI_clamp (by omega)]
  refine x_iconst (M := mX3_side) (pc := 32) (v := nI 2) dX3_side_32 (by decide) ?_
  refine x_aload_n (M := mX3_side) (pc := 33) dX3_side_33 rfl ?_
  refine x_get (M := mX3_side) (pc := 34) kcX3 0 rfl q2835 dX3_side_34 hM.1 rfl ?_
  refine x_iconst (M := mX3_side) (pc := 37) (v := nI 1) dX3_side_37 (by decide) ?_
  refine xm_ialdV (M := mX3_side) (pc := 38) hM dX3_side_38 (hW.1.2.1) (by decide) (by first | decide | (simp only [mSz] <;> omega)) ?_
  refine x_iload_n (M := mX3_side) (pc := 39) dX3_side_39 rfl ?_
  first | with_reducible refine x_imulN (M := mX3_side) (pc := 40) dX3_side_40 ?_ | refine x_imul (M := mX3_side) (pc := 40) dX3_side_40 ?_
  refine x_iload_n (M := mX3_side) (pc := 41) dX3_side_41 rfl ?_
  first | with_reducible refine x_iaddN (M := mX3_side) (pc := 42) dX3_side_42 ?_ | refine x_iadd (M := mX3_side) (pc := 42) dX3_side_42 ?_
  first | with_reducible refine x_imulN (M := mX3_side) (pc := 43) dX3_side_43 ?_ | refine x_imul (M := mX3_side) (pc := 43) dX3_side_43 ?_
  refine x_iload_n (M := mX3_side) (pc := 44) dX3_side_44 rfl ?_
  first | with_reducible refine x_iaddN (M := mX3_side) (pc := 45) dX3_side_45 ?_ | refine x_iadd (M := mX3_side) (pc := 45) dX3_side_45 ?_
  refine x_istore5 (M := mX3_side) (pc := 46) dX3_side_46 ?_
  refine x_iload (M := mX3_side) (pc := 48) dX3_side_48 rfl ?_
  refine x_iconst (M := mX3_side) (pc := 50) (v := nI 1) dX3_side_50 (by decide) ?_
  refine x_icmp_ne (M := mX3_side) (pc := 51) 67 dX3_side_51 (by decide) (fun r_1 => ?_) (fun r_1 => ?_)
  · refine x_aload_n (M := mX3_side) (pc := 67) dX3_side_67 rfl ?_
    refine x_get (M := mX3_side) (pc := 68) kcX3 0 rfl q2835 dX3_side_68 hM.1 rfl ?_
    refine x_bipush (M := mX3_side) (pc := 71) (v := nI 90) dX3_side_71 (by decide) ?_
    refine x_iload (M := mX3_side) (pc := 73) dX3_side_73 rfl ?_
    first | with_reducible refine x_iaddN (M := mX3_side) (pc := 75) dX3_side_75 ?_ | refine x_iadd (M := mX3_side) (pc := 75) dX3_side_75 ?_
    refine xm_iald (M := mX3_side) (pc := 76) hM dX3_side_76 (by decide) (by first | decide | (simp only [mSz] <;> omega)) ?_
    refine x_if_ge (M := mX3_side) (pc := 77) 85 dX3_side_77 (by decide) (fun r_2 => ?_) (fun r_2 => ?_)
    · refine x_aload_n (M := mX3_side) (pc := 85) dX3_side_85 rfl ?_
      refine x_get (M := mX3_side) (pc := 86) kcX3 0 rfl q2835 dX3_side_86 hM.1 rfl ?_
      refine x_bipush (M := mX3_side) (pc := 89) (v := nI 90) dX3_side_89 (by decide) ?_
      refine x_iload (M := mX3_side) (pc := 91) dX3_side_91 rfl ?_
      first | with_reducible refine x_iaddN (M := mX3_side) (pc := 93) dX3_side_93 ?_ | refine x_iadd (M := mX3_side) (pc := 93) dX3_side_93 ?_
      refine xm_iald (M := mX3_side) (pc := 94) hM dX3_side_94 (by decide) (by first | decide | (simp only [mSz] <;> omega)) ?_
      refine x_iret (M := mX3_side) (pc := 95) dX3_side_95 rfl (Nat.le_refl 0) (Nat.le_refl 0) ⟨_, _, _, _, rfl, ?_, hM, hF⟩
      refine QF.lf ?_ LF.rf; unfold q_side; rw [if_neg (by simp [c6, c16, c27]), hat]; first | (rw [if_pos (show w = 1 from r_1)]; done) | (rw [if_neg (show ¬ w = 1 from r_1), zNone, if_neg (by rw [Int32.not_lt]; exact r_2)]; done) | (rw [if_neg (show ¬ w = 1 from r_1), zNone, if_pos (by rw [← Int32.not_le]; exact r_2)]; done)
    · refine x_bipush (M := mX3_side) (pc := 80) (v := (-9)) dX3_side_80 (by decide) ?_
      refine x_goto (M := mX3_side) (pc := 82) 95 dX3_side_82 (by decide) ?_
      refine x_iret (M := mX3_side) (pc := 95) dX3_side_95 rfl (Nat.le_refl 0) (Nat.le_refl 0) ⟨_, _, _, _, rfl, ?_, hM, hF⟩
      refine QF.lf ?_ LF.rf; unfold q_side; rw [if_neg (by simp [c6, c16, c27]), hat]; first | (rw [if_pos (show w = 1 from r_1)]; done) | (rw [if_neg (show ¬ w = 1 from r_1), zNone, if_neg (by rw [Int32.not_lt]; exact r_2)]; done) | (rw [if_neg (show ¬ w = 1 from r_1), zNone, if_pos (by rw [← Int32.not_le]; exact r_2)]; done)
  · refine x_aload_n (M := mX3_side) (pc := 54) dX3_side_54 rfl ?_
    refine x_get (M := mX3_side) (pc := 55) kcX3 0 rfl q2835 dX3_side_55 hM.1 rfl ?_
    refine x_bipush (M := mX3_side) (pc := 58) (v := nI 122) dX3_side_58 (by decide) ?_
    refine x_iload (M := mX3_side) (pc := 60) dX3_side_60 rfl ?_
    first | with_reducible refine x_iaddN (M := mX3_side) (pc := 62) dX3_side_62 ?_ | refine x_iadd (M := mX3_side) (pc := 62) dX3_side_62 ?_
    refine xm_iald (M := mX3_side) (pc := 63) hM dX3_side_63 (by decide) (by first | decide | (simp only [mSz] <;> omega)) ?_
    refine x_goto (M := mX3_side) (pc := 64) 95 dX3_side_64 (by decide) ?_
    refine x_iret (M := mX3_side) (pc := 95) dX3_side_95 rfl (Nat.le_refl 0) (Nat.le_refl 0) ⟨_, _, _, _, rfl, ?_, hM, hF⟩
    refine QF.lf ?_ LF.rf; unfold q_side; rw [if_neg (by simp [c6, c16, c27]), hat]; first | (rw [if_pos (show w = 1 from r_1)]; done) | (rw [if_neg (show ¬ w = 1 from r_1), zNone, if_neg (by rw [Int32.not_lt]; exact r_2)]; done) | (rw [if_neg (show ¬ w = 1 from r_1), zNone, if_pos (by rw [← Int32.not_le]; exact r_2)]; done)
end MODELD

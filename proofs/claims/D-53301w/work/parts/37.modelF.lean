section PURE7
set_option maxRecDepth 100000
/-- the first of k, k + 1, .. (q of them) with P, or the end -/
def fstN (P : Nat → Bool) : Nat → Nat → Nat
  | 0, k => k
  | q + 1, k => if P k then k else fstN P q (k + 1)
theorem fstN_le (P : Nat → Bool) : ∀ q k, k ≤ fstN P q k ∧ fstN P q k ≤ k + q
  | 0, k => ⟨Nat.le_refl _, Nat.le_refl _⟩
  | q + 1, k => by
    unfold fstN
    split
    · omega
    · have := fstN_le P q (k + 1); omega
def allN (P : Nat → Bool) : Nat → Bool
  | 0 => true
  | n + 1 => allN P n && P n
def zTu (s : Row) (k : Nat) : Bool := decide (s (122 + k) = 1)
def zOwn (s : Row) (ly : Nat → Lay) (pg : Nat) : Bool := decide (s (90 + p_sd ly pg) = nI pg) && (p_tn ly (zN s 7) pg == zTu s (p_sd ly pg))
def zOwns (s : Row) (ly : Nat → Lay) : Nat := fstN (fun pg => !zOwn s ly pg) (2 * zN16 s) 0
def zHid (s : Row) (pg : Nat) : Bool := decide (zShut s ((pg + 1) / 2) ≠ 0)
def zRd (s : Row) : Nat := fstN (fun pg => zHid s pg || !zOwn s (zLy s) pg) (2 * zN16 s) 0
def q_reading (s : Row) (w : Int32) : Int32 := if zBook s = false then -2 else if bIn w 0 2 = false then -1 else if w = 0 then nI (zRd s) else if zRd s = 2 * zN16 s then -9 else if w = 1 then nI (zRd s) else
  if zHid s (zRd s) then 1 else if s (90 + p_sd (zLy s) (zRd s)) < 0 then 2 else if s (90 + p_sd (zLy s) (zRd s)) = nI (zRd s) then 4 else 3
def zPg (s : Row) (x : Int32) : Nat := fstN (fun pg => decide (s (90 + p_sd (zLy s) pg) = x)) (2 * zN16 s) 0
def q_pageOf (s : Row) (x : Int32) : Int32 := if zBook s = false then -2 else if bIn x 0 31 = false then -1 else if zPg s x = 2 * zN16 s then -9 else nI (zPg s x)
def q_effort (s : Row) (x : Int32) : Int32 := if bIn x 0 4 = false then -1 else if x.toNatClampNeg < 4 then s (86 + x.toNatClampNeg) else s 86 + s 87 + s 88 + s 89
def zCuts (s : Row) (ly : Nat → Lay) : Nat := orN (fun i => orN (fun j => p_bit 0 (p_se (zN s 7)) (p_edge (zWi s) ly i (i + 1 + j))) (zN16 s - (i + 1))) (zN16 s)
theorem zCuts_lt {s : Row} {ly : Nat → Lay} : zCuts s ly < 16 := orN_lt (k := 4) (fun i => orN_lt (k := 4) (fun j => p_bit_lt) _) _
def q_readsBy (s : Row) (x : Int32) : Int32 := if p_isRowI (zHi s) (zWi s) x then nI (zOwns s (zBy s x)) else -1
def q_cutsFor (s : Row) (x : Int32) : Int32 := if p_isRowI (zHi s) (zWi s) x then nI (zCuts s (zBy s x)) else -1
def zSee1 (s : Row) (ly : Nat → Lay) (k : Nat) : Bool := decide (s (90 + p_sd ly (zN s (13 + 3 * k))) = s (14 + 3 * k)) && ((p_tn ly (zN s 7) (zN s (13 + 3 * k)) == zTu s (p_sd ly (zN s (13 + 3 * k)))) == decide (s (15 + 3 * k) = 0))
def zSeen (s : Row) (ly : Nat → Lay) : Bool := allN (zSee1 s ly) (zN s 12)
def zFit (s : Row) : Nat → Nat × Int32 × Int32
  | 0 => (0, -9, -9)
  | f + 1 => if p_isRowI (zHi s) (zWi s) (nI f) && zSeen s (zBy s (nI f)) then ((zFit s f).1 + 1, if (zFit s f).1 = 0 then nI f else (zFit s f).2.1, nI f) else zFit s f
theorem zFit_le (s : Row) : ∀ f, (zFit s f).1 ≤ f
  | 0 => Nat.le_refl 0
  | f + 1 => by
    have := zFit_le s f
    unfold zFit
    split
    · show (zFit s f).1 + 1 ≤ _; omega
    · omega
def q_fitting (s : Row) (x : Int32) : Int32 := if bIn x 0 2 = false then -1 else if x = 0 then nI (zFit s 5000).1 else if x = 1 then (zFit s 5000).2.1 else (zFit s 5000).2.2
def zBetter (s : Row) (f : Nat) (t : Int32 × Nat × Nat) : Bool := decide (t.1 < 0) || decide (p_ones 16 (zCuts s (zBy s (nI f))) < t.2.1) || (decide (p_ones 16 (zCuts s (zBy s (nI f))) = t.2.1) && decide (t.2.2 < zOwns s (zBy s (nI f))))
def zBst (s : Row) : Nat → Int32 × Nat × Nat
  | 0 => (-1, 0, 0)
  | f + 1 => if p_isRowI (zHi s) (zWi s) (nI f) && zBetter s f (zBst s f) then (nI f, p_ones 16 (zCuts s (zBy s (nI f))), zOwns s (zBy s (nI f))) else zBst s f
def q_best (s : Row) (x : Int32) : Int32 := if bIn x 0 2 = false then -1 else if x = 0 then (zBst s 5000).1 else if x = 1 then nI (zBst s 5000).2.1 else nI (zBst s 5000).2.2
end PURE7
section MODELF
set_option maxRecDepth 100000
variable {g : xG} {l : Launch} {m : Nat} {A : Nat → Nat} {I : Nat → Int32} {B : Nat → Nat → Int32} {wd : Int64}
theorem m_effort (d : Nat) (hd : 2 ≤ d) (x : Int32) : MC g l mX3_effort d [.int x] m A I B wd (QF I B (q_effort (B 0) x)) := by
  intro h hM
  have hF : MF m A h h := MF.rf
  refine Ct.of [some (.ref m), some (.int x)] (by decide +kernel) rfl (Nat.le_of_ble_eq_true rfl) rfl rfl ?_
  refine x_iload_n (M := mX3_effort) (pc := 0) dX3_effort_0 rfl ?_
  refine x_i2l (M := mX3_effort) (pc := 1) dX3_effort_1 ?_
  refine x_lconst (M := mX3_effort) (pc := 2) (v := 0) dX3_effort_2 (by decide) ?_
  refine x_ldc2 (M := mX3_effort) (pc := 3) dX3_effort_3 q2948 ?_
  refine x_S3 (M := mX3_effort) (pc := 6) (M' := mX3_in) q2949 kSX3_in dX3_effort_6 (m_inB h x 0 4 0 4 (by decide) (by decide) (d - 1)) (fun v_ h hq_ => ?_)
  obtain ⟨hv_, rfl⟩ := hq_; cases hv_
  first | with_reducible refine x_ifB_ne (M := mX3_effort) (pc := 9) 14 dX3_effort_9 (by decide) (fun c9 => ?_) (fun c9 => ?_) | with_reducible refine x_if_neN (M := mX3_effort) (pc := 9) 14 dX3_effort_9 (by decide) (by omega) (fun c9 => ?_) (fun c9 => ?_) | refine x_if_ne (M := mX3_effort) (pc := 9) 14 dX3_effort_9 (by decide) (fun c9 => ?_) (fun c9 => ?_)
  rotate_left
  · refine x_iconst (M := mX3_effort) (pc := 12) (v := (-1)) dX3_effort_12 (by decide) ?_
    refine x_iret (M := mX3_effort) (pc := 13) dX3_effort_13 rfl (Nat.le_refl 0) (Nat.le_refl 0) ⟨_, _, _, _, rfl, ?_, hM, hF⟩
    exact QF.lf (by rw [q_effort, if_pos c9]) LF.rf
  skip
  obtain ⟨n, rfl, -, hn⟩ := bIn_n (a := 0) (b := 4) (by omega) (by omega) c9
  refine x_iload_n (M := mX3_effort) (pc := 14) dX3_effort_14 rfl ?_
  refine x_iconst (M := mX3_effort) (pc := 15) (v := nI 4) dX3_effort_15 (by decide) ?_
  first | with_reducible refine x_icmp_geN (M := mX3_effort) (pc := 16) 31 dX3_effort_16 (by decide) (by omega) (by omega) (fun c16 => ?_) (fun c16 => ?_) | refine x_icmp_ge (M := mX3_effort) (pc := 16) 31 dX3_effort_16 (by decide) (fun c16 => ?_) (fun c16 => ?_)
  · refine x_aload_n (M := mX3_effort) (pc := 31) dX3_effort_31 rfl ?_
    refine x_get (M := mX3_effort) (pc := 32) kcX3 0 rfl q2835 dX3_effort_32 hM.1 rfl ?_
    refine x_bipush (M := mX3_effort) (pc := 35) (v := nI 86) dX3_effort_35 (by decide) ?_
    refine xm_iald (M := mX3_effort) (pc := 37) hM dX3_effort_37 (by decide) (by first | decide | (simp only [mSz] <;> omega)) ?_
    refine x_aload_n (M := mX3_effort) (pc := 38) dX3_effort_38 rfl ?_
    refine x_get (M := mX3_effort) (pc := 39) kcX3 0 rfl q2835 dX3_effort_39 hM.1 rfl ?_
    refine x_bipush (M := mX3_effort) (pc := 42) (v := nI 87) dX3_effort_42 (by decide) ?_
    refine xm_iald (M := mX3_effort) (pc := 44) hM dX3_effort_44 (by decide) (by first | decide | (simp only [mSz] <;> omega)) ?_
    first | with_reducible refine x_iaddN (M := mX3_effort) (pc := 45) dX3_effort_45 ?_ | refine x_iadd (M := mX3_effort) (pc := 45) dX3_effort_45 ?_
    refine x_aload_n (M := mX3_effort) (pc := 46) dX3_effort_46 rfl ?_
    refine x_get (M := mX3_effort) (pc := 47) kcX3 0 rfl q2835 dX3_effort_47 hM.1 rfl ?_
    refine x_bipush (M := mX3_effort) (pc := 50) (v := nI 88) dX3_effort_50 (by decide) ?_
    refine xm_iald (M := mX3_effort) (pc := 52) hM dX3_effort_52 (by decide) (by first | decide | (simp only [mSz] <;> omega)) ?_
    first | with_reducible refine x_iaddN (M := mX3_effort) (pc := 53) dX3_effort_53 ?_ | refine x_iadd (M := mX3_effort) (pc := 53) dX3_effort_53 ?_
    refine x_aload_n (M := mX3_effort) (pc := 54) dX3_effort_54 rfl ?_
    refine x_get (M := mX3_effort) (pc := 55) kcX3 0 rfl q2835 dX3_effort_55 hM.1 rfl ?_
    refine x_bipush (M := mX3_effort) (pc := 58) (v := nI 89) dX3_effort_58 (by decide) ?_
    refine xm_iald (M := mX3_effort) (pc := 60) hM dX3_effort_60 (by decide) (by first | decide | (simp only [mSz] <;> omega)) ?_
    first | with_reducible refine x_iaddN (M := mX3_effort) (pc := 61) dX3_effort_61 ?_ | refine x_iadd (M := mX3_effort) (pc := 61) dX3_effort_61 ?_
    refine x_iret (M := mX3_effort) (pc := 62) dX3_effort_62 rfl (Nat.le_refl 0) (Nat.le_refl 0) ⟨_, _, _, _, rfl, ?_, hM, hF⟩
    refine QF.lf ?_ LF.rf; rw [q_effort, if_neg (by rw [c9]; decide), nI_clamp (by omega)]; first | rw [if_pos (by omega)] | rw [if_neg (by omega)]
  · refine x_aload_n (M := mX3_effort) (pc := 19) dX3_effort_19 rfl ?_
    refine x_get (M := mX3_effort) (pc := 20) kcX3 0 rfl q2835 dX3_effort_20 hM.1 rfl ?_
    refine x_bipush (M := mX3_effort) (pc := 23) (v := nI 86) dX3_effort_23 (by decide) ?_
    refine x_iload_n (M := mX3_effort) (pc := 25) dX3_effort_25 rfl ?_
    first | with_reducible refine x_iaddN (M := mX3_effort) (pc := 26) dX3_effort_26 ?_ | refine x_iadd (M := mX3_effort) (pc := 26) dX3_effort_26 ?_
    refine xm_iald (M := mX3_effort) (pc := 27) hM dX3_effort_27 (by decide) (by first | decide | (simp only [mSz] <;> omega)) ?_
    refine x_goto (M := mX3_effort) (pc := 28) 62 dX3_effort_28 (by decide) ?_
    refine x_iret (M := mX3_effort) (pc := 62) dX3_effort_62 rfl (Nat.le_refl 0) (Nat.le_refl 0) ⟨_, _, _, _, rfl, ?_, hM, hF⟩
    refine QF.lf ?_ LF.rf; rw [q_effort, if_neg (by rw [c9]; decide), nI_clamp (by omega)]; first | rw [if_pos (by omega)] | rw [if_neg (by omega)]
/-- what the row must say of the layer state -/
def BW (I : Nat → Int32) (B : Nat → Nat → Int32) (s : Row) (ly : Nat → Lay) : Prop := BK I B (zN16 s) (zWi s) ly ∧ B 0 = s
theorem m_ownPages_l (d : Nat) (hd : 3 ≤ d) (s : Row) (ly : Nat → Lay) (hB : BW I B s ly) (hW : WF s) (h : xH) (hM : MR g h m A I B wd) (Q : xO → xH → Prop) (hE : Q (.inl (some (.int (nI (zOwns s ly))))) h) : ∀ q k, k + q = 2 * zN16 s → zOwns s ly = fstN (fun pg => !zOwn s ly pg) q k → X g l mX3_ownPages d 0 0 Q 2 [some (.ref m), some (.int (nI k))] [] h 0 0 := by
  have b2 := hB.1.2.2.2.2.1
  intro q
  induction q with
  | zero =>
    intro k hk he
    refine x_iload_n (M := mX3_ownPages) (pc := 2) dX3_ownPages_2 rfl ?_
    refine x_iconst (M := mX3_ownPages) (pc := 3) (v := nI 2) dX3_ownPages_3 (by decide) ?_
    refine x_aload_n (M := mX3_ownPages) (pc := 4) dX3_ownPages_4 rfl ?_
    refine x_get (M := mX3_ownPages) (pc := 5) kcX3 9 rfl q2844 dX3_ownPages_5 hM.1 rfl ?_
    refine x_val (M := mX3_ownPages) (pc := 8) (hB.1.1) ?_
    first | with_reducible refine x_imulN (M := mX3_ownPages) (pc := 8) dX3_ownPages_8 ?_ | refine x_imul (M := mX3_ownPages) (pc := 8) dX3_ownPages_8 ?_
    first | with_reducible refine x_icmp_geN (M := mX3_ownPages) (pc := 9) 26 dX3_ownPages_9 (by decide) (by omega) (by omega) (fun c1 => ?_) (fun c1 => ?_) | refine x_icmp_ge (M := mX3_ownPages) (pc := 9) 26 dX3_ownPages_9 (by decide) (fun c1 => ?_) (fun c1 => ?_)
    · refine x_iload_n (M := mX3_ownPages) (pc := 26) dX3_ownPages_26 rfl ?_
      rw [he] at hE
      exact x_iret (pc := 27) dX3_ownPages_27 rfl (Nat.le_refl 0) (Nat.le_refl 0) hE
    · omega
  | succ q ih =>
    intro k hk he
    refine x_iload_n (M := mX3_ownPages) (pc := 2) dX3_ownPages_2 rfl ?_
    refine x_iconst (M := mX3_ownPages) (pc := 3) (v := nI 2) dX3_ownPages_3 (by decide) ?_
    refine x_aload_n (M := mX3_ownPages) (pc := 4) dX3_ownPages_4 rfl ?_
    refine x_get (M := mX3_ownPages) (pc := 5) kcX3 9 rfl q2844 dX3_ownPages_5 hM.1 rfl ?_
    refine x_val (M := mX3_ownPages) (pc := 8) (hB.1.1) ?_
    first | with_reducible refine x_imulN (M := mX3_ownPages) (pc := 8) dX3_ownPages_8 ?_ | refine x_imul (M := mX3_ownPages) (pc := 8) dX3_ownPages_8 ?_
    first | with_reducible refine x_icmp_geN (M := mX3_ownPages) (pc := 9) 26 dX3_ownPages_9 (by decide) (by omega) (by omega) (fun c1 => ?_) (fun c1 => ?_) | refine x_icmp_ge (M := mX3_ownPages) (pc := 9) 26 dX3_ownPages_9 (by decide) (fun c1 => ?_) (fun c1 => ?_)
    · omega
    refine x_aload_n (M := mX3_ownPages) (pc := 12) dX3_ownPages_12 rfl ?_
    refine x_iload_n (M := mX3_ownPages) (pc := 13) dX3_ownPages_13 rfl ?_
    refine x_V1 (M := mX3_ownPages) (pc := 14) (M' := mX3_isItsOwn) q3213 kVX3_isItsOwn dX3_ownPages_14 (m_isItsOwn (d - 1) _ _ ly hB.1 (zN s 7) (by rw [hB.2]; exact hW.2.1.1) hW.2.1.2 (zTu s) (by rw [hB.2]; exact fun k hk => (hW.2.2.2.2.2.2.2.2.2.2 k hk).2) k (by omega) (by omega) h hM) (hM.is) (fun v_ h hq_ => ?_)
    obtain ⟨hv_, rfl⟩ := hq_; cases hv_
    first | with_reducible refine x_ifB_eq (M := mX3_ownPages) (pc := 17) 26 dX3_ownPages_17 (by decide) (fun c17 => ?_) (fun c17 => ?_) | with_reducible refine x_if_eqN (M := mX3_ownPages) (pc := 17) 26 dX3_ownPages_17 (by decide) (by omega) (fun c17 => ?_) (fun c17 => ?_) | refine x_if_eq (M := mX3_ownPages) (pc := 17) 26 dX3_ownPages_17 (by decide) (fun c17 => ?_) (fun c17 => ?_)
    · refine x_iload_n (M := mX3_ownPages) (pc := 26) dX3_ownPages_26 rfl ?_
      rw [he, fstN, if_pos (by simp only [zOwn]; rw [hB.2] at c17; simp [c17])] at hE; exact x_iret (pc := 27) dX3_ownPages_27 rfl (Nat.le_refl 0) (Nat.le_refl 0) hE
    · first | refine x_iinc1N (M := mX3_ownPages) (pc := 20) (c := 1) dX3_ownPages_20 oI1 ?_ | refine x_iinc1 (M := mX3_ownPages) (pc := 20) (c := 1) dX3_ownPages_20 (by decide) ?_
      refine x_goto (M := mX3_ownPages) (pc := 23) 2 dX3_ownPages_23 (by decide) ?_
      refine ih (k + 1) (by omega) (he.trans ?_); rw [fstN, if_neg (by simp only [zOwn]; rw [hB.2] at c17; simp [c17])]
theorem m_ownPages (d : Nat) (hd : 3 ≤ d) (s : Row) (ly : Nat → Lay) (hB : BW I B s ly) (hW : WF s) : MCr g l mX3_ownPages d [] m A I B wd (some (.int (nI (zOwns s ly)))) := by
  intro h hM
  refine Ct.of [some (.ref m), none] (by decide +kernel) rfl (Nat.le_of_ble_eq_true rfl) rfl rfl ?_
  refine x_iconst (M := mX3_ownPages) (pc := 0) (v := nI 0) dX3_ownPages_0 (by decide) ?_
  refine x_istore1 (M := mX3_ownPages) (pc := 1) dX3_ownPages_1 ?_
  exact m_ownPages_l d hd s ly hB hW h hM _ ⟨rfl, rfl⟩ _ 0 (Nat.zero_add _) rfl
theorem m_edgesToCut_l1 (d : Nat) (hd : 3 ≤ d) (s : Row) (ly : Nat → Lay) (hB : BW I B s ly) (hW : WF s) (h : xH) (hM : MR g h m A I B wd) (Q : xO → xH → Prop) (i : Nat) (hi : i < zN16 s) (S : Nat) (hS : S < 16)
    (hE : ∀ a4, X g l mX3_edgesToCut d 0 0 Q 63 [some (.ref m), some (.int (nI (S ||| orN (fun j => p_bit 0 (p_se (zN s 7)) (p_edge (zWi s) ly i (i + 1 + j))) (zN16 s - (i + 1))))), some (.int (nI i)), some (.int (nI (zN16 s))), a4] [] h 0 0) :
    ∀ q k, k + q = zN16 s - (i + 1) → ∀ a4, X g l mX3_edgesToCut d 0 0 Q 16 [some (.ref m), some (.int (nI (S ||| orN (fun j => p_bit 0 (p_se (zN s 7)) (p_edge (zWi s) ly i (i + 1 + j))) k))), some (.int (nI i)), some (.int (nI (i + 1 + k))), a4] [] h 0 0 := by
  have b2 := hB.1.2.2.2.2.1
  have hs7 : B 0 7 = nI (zN s 7) := by rw [hB.2]; exact hW.2.1.1
  intro q
  induction q with
  | zero =>
    intro k hk a4
    have : k = zN16 s - (i + 1) := by omega
    subst this
    refine x_iload_n (M := mX3_edgesToCut) (pc := 16) dX3_edgesToCut_16 rfl ?_
    refine x_aload_n (M := mX3_edgesToCut) (pc := 17) dX3_edgesToCut_17 rfl ?_
    refine x_get (M := mX3_edgesToCut) (pc := 18) kcX3 9 rfl q2844 dX3_edgesToCut_18 hM.1 rfl ?_
    refine x_val (M := mX3_edgesToCut) (pc := 21) (hB.1.1) ?_
    first | with_reducible refine x_icmp_geN (M := mX3_edgesToCut) (pc := 21) 63 dX3_edgesToCut_21 (by decide) (by omega) (by omega) (fun c1 => ?_) (fun c1 => ?_) | refine x_icmp_ge (M := mX3_edgesToCut) (pc := 21) 63 dX3_edgesToCut_21 (by decide) (fun c1 => ?_) (fun c1 => ?_)
    · rw [show i + 1 + (zN16 s - (i + 1)) = zN16 s by omega]; exact hE a4
    · omega
  | succ q ih =>
    intro k hk a4
    refine x_iload_n (M := mX3_edgesToCut) (pc := 16) dX3_edgesToCut_16 rfl ?_
    refine x_aload_n (M := mX3_edgesToCut) (pc := 17) dX3_edgesToCut_17 rfl ?_
    refine x_get (M := mX3_edgesToCut) (pc := 18) kcX3 9 rfl q2844 dX3_edgesToCut_18 hM.1 rfl ?_
    refine x_val (M := mX3_edgesToCut) (pc := 21) (hB.1.1) ?_
    first | with_reducible refine x_icmp_geN (M := mX3_edgesToCut) (pc := 21) 63 dX3_edgesToCut_21 (by decide) (by omega) (by omega) (fun c1 => ?_) (fun c1 => ?_) | refine x_icmp_ge (M := mX3_edgesToCut) (pc := 21) 63 dX3_edgesToCut_21 (by decide) (fun c1 => ?_) (fun c1 => ?_)
    · omega
    · refine x_aload_n (M := mX3_edgesToCut) (pc := 24) dX3_edgesToCut_24 rfl ?_
      refine x_iload_n (M := mX3_edgesToCut) (pc := 25) dX3_edgesToCut_25 rfl ?_
      refine x_iload_n (M := mX3_edgesToCut) (pc := 26) dX3_edgesToCut_26 rfl ?_
      refine x_V2 (M := mX3_edgesToCut) (pc := 27) (M' := mX3_edgeOf) q3034 kVX3_edgeOf dX3_edgesToCut_27 (m_edgeOf (d - 1) _ _ ly hB.1 i (i + 1 + k) (by omega) (by omega) h hM) (hM.is) (fun v_ h hq_ => ?_)
      obtain ⟨hv_, rfl⟩ := hq_
      cases hv_
      have hlt := orN_lt (k := 4) (f := fun j => p_bit 0 (p_se (zN s 7)) (p_edge (zWi s) ly i (i + 1 + j))) (fun j => p_bit_lt) k
      have hlt2 : S ||| orN (fun j => p_bit 0 (p_se (zN s 7)) (p_edge (zWi s) ly i (i + 1 + j))) k < 2 ^ 4 := Nat.or_lt_two_pow hS hlt
      cases he : p_edge (zWi s) ly i (i + 1 + k) with
      | none =>
        refine x_val (M := mX3_edgesToCut) (pc := 30) (w := -1) rfl ?_
        refine x_istore4 (M := mX3_edgesToCut) (pc := 30) dX3_edgesToCut_30 ?_
        refine x_iload_n (M := mX3_edgesToCut) (pc := 32) dX3_edgesToCut_32 rfl ?_
        refine x_joinV 55 (nI (p_bit 0 (p_se (zN s 7)) (p_edge (zWi s) ly i (i + 1 + k)))) (fun J => ?_) ?_
        · refine x_iload (M := mX3_edgesToCut) (pc := 33) dX3_edgesToCut_33 rfl ?_
          first | refine x_if_lt (M := mX3_edgesToCut) (pc := 35) 54 dX3_edgesToCut_35 (by decide) (fun c35 => ?_) (fun c35 => ?_)
          · refine x_iconst (M := mX3_edgesToCut) (pc := 54) (v := nI 0) dX3_edgesToCut_54 (by decide) ?_
            exact J _ (by rw [he]; rfl)
          · exact absurd (by decide) c35
        refine x_ior (M := mX3_edgesToCut) (pc := 55) dX3_edgesToCut_55 ?_
        refine x_istore1 (M := mX3_edgesToCut) (pc := 56) dX3_edgesToCut_56 ?_
        first | refine x_iinc3N (M := mX3_edgesToCut) (pc := 57) (c := 1) dX3_edgesToCut_57 oI1 ?_ | refine x_iinc3 (M := mX3_edgesToCut) (pc := 57) (c := 1) dX3_edgesToCut_57 (by decide) ?_
        refine x_goto (M := mX3_edgesToCut) (pc := 60) 16 dX3_edgesToCut_60 (by decide) ?_
        rw [nI_or, Nat.or_assoc]; exact ih (k + 1) (by omega) _
      | some e =>
        have he4 := p_edge_lt he
        have hse : p_se (zN s 7) < 3 := by unfold p_se; split <;> omega
        refine x_val (M := mX3_edgesToCut) (pc := 30) (w := nI e) rfl ?_
        refine x_istore4 (M := mX3_edgesToCut) (pc := 30) dX3_edgesToCut_30 ?_
        refine x_iload_n (M := mX3_edgesToCut) (pc := 32) dX3_edgesToCut_32 rfl ?_
        refine x_joinV 55 (nI (p_bit 0 (p_se (zN s 7)) (p_edge (zWi s) ly i (i + 1 + k)))) (fun J => ?_) ?_
        · refine x_iload (M := mX3_edgesToCut) (pc := 33) dX3_edgesToCut_33 rfl ?_
          first | refine x_if_lt (M := mX3_edgesToCut) (pc := 35) 54 dX3_edgesToCut_35 (by decide) (fun c35 => ?_) (fun c35 => ?_)
          · exact absurd c35 (nI_pos (by omega))
          · refine x_iload (M := mX3_edgesToCut) (pc := 38) dX3_edgesToCut_38 rfl ?_
            refine x_aload_n (M := mX3_edgesToCut) (pc := 40) dX3_edgesToCut_40 rfl ?_
            refine x_V0 (M := mX3_edgesToCut) (pc := 41) (M' := mX3_spineEdge) q3209 kVX3_spineEdge dX3_edgesToCut_41 (m_spineEdge (d - 1) _ hs7 hW.2.1.2 h hM) (hM.is) (fun v_ h hq_ => ?_)
            obtain ⟨hv_, rfl⟩ := hq_; cases hv_
            first | with_reducible refine x_icmp_eqN (M := mX3_edgesToCut) (pc := 44) 54 dX3_edgesToCut_44 (by decide) (by omega) (by omega) (fun c44 => ?_) (fun c44 => ?_) | refine x_icmp_eq (M := mX3_edgesToCut) (pc := 44) 54 dX3_edgesToCut_44 (by decide) (fun c44 => ?_) (fun c44 => ?_)
            · refine x_iconst (M := mX3_edgesToCut) (pc := 54) (v := nI 0) dX3_edgesToCut_54 (by decide) ?_
              exact J _ (by simp [he, p_bit, *])
            · refine x_iconst (M := mX3_edgesToCut) (pc := 47) (v := nI 1) dX3_edgesToCut_47 (by decide) ?_
              refine x_iload (M := mX3_edgesToCut) (pc := 48) dX3_edgesToCut_48 rfl ?_
              refine x_ishl (M := mX3_edgesToCut) (pc := 50) dX3_edgesToCut_50 ?_
              refine x_val (M := mX3_edgesToCut) (pc := 51) (nI_one e (by omega)) ?_
              refine x_goto (M := mX3_edgesToCut) (pc := 51) 55 dX3_edgesToCut_51 (by decide) ?_
              exact J _ (by simp [he, p_bit, *])
        refine x_ior (M := mX3_edgesToCut) (pc := 55) dX3_edgesToCut_55 ?_
        refine x_istore1 (M := mX3_edgesToCut) (pc := 56) dX3_edgesToCut_56 ?_
        first | refine x_iinc3N (M := mX3_edgesToCut) (pc := 57) (c := 1) dX3_edgesToCut_57 oI1 ?_ | refine x_iinc3 (M := mX3_edgesToCut) (pc := 57) (c := 1) dX3_edgesToCut_57 (by decide) ?_
        refine x_goto (M := mX3_edgesToCut) (pc := 60) 16 dX3_edgesToCut_60 (by decide) ?_
        rw [nI_or, Nat.or_assoc]; exact ih (k + 1) (by omega) _
theorem m_edgesToCut_l2 (d : Nat) (hd : 3 ≤ d) (s : Row) (ly : Nat → Lay) (hB : BW I B s ly) (hW : WF s) (h : xH) (hM : MR g h m A I B wd) (Q : xO → xH → Prop) (hE : Q (.inl (some (.int (nI (zCuts s ly))))) h) :
    ∀ q i, i + q = zN16 s → ∀ a3 a4, X g l mX3_edgesToCut d 0 0 Q 4 [some (.ref m), some (.int (nI (orN (fun i => orN (fun j => p_bit 0 (p_se (zN s 7)) (p_edge (zWi s) ly i (i + 1 + j))) (zN16 s - (i + 1))) i))), some (.int (nI i)), a3, a4] [] h 0 0 := by
  have b2 := hB.1.2.2.2.2.1
  intro q
  induction q with
  | zero =>
    intro i hi a3 a4
    have : i = zN16 s := by omega
    subst this
    refine x_iload_n (M := mX3_edgesToCut) (pc := 4) dX3_edgesToCut_4 rfl ?_
    refine x_aload_n (M := mX3_edgesToCut) (pc := 5) dX3_edgesToCut_5 rfl ?_
    refine x_get (M := mX3_edgesToCut) (pc := 6) kcX3 9 rfl q2844 dX3_edgesToCut_6 hM.1 rfl ?_
    refine x_val (M := mX3_edgesToCut) (pc := 9) (hB.1.1) ?_
    first | with_reducible refine x_icmp_geN (M := mX3_edgesToCut) (pc := 9) 69 dX3_edgesToCut_9 (by decide) (by omega) (by omega) (fun c1 => ?_) (fun c1 => ?_) | refine x_icmp_ge (M := mX3_edgesToCut) (pc := 9) 69 dX3_edgesToCut_9 (by decide) (fun c1 => ?_) (fun c1 => ?_)
    · refine x_iload_n (M := mX3_edgesToCut) (pc := 69) dX3_edgesToCut_69 rfl ?_
      exact x_iret (pc := 70) dX3_edgesToCut_70 rfl (Nat.le_refl 0) (Nat.le_refl 0) hE
    · omega
  | succ q ih =>
    intro i hi a3 a4
    refine x_iload_n (M := mX3_edgesToCut) (pc := 4) dX3_edgesToCut_4 rfl ?_
    refine x_aload_n (M := mX3_edgesToCut) (pc := 5) dX3_edgesToCut_5 rfl ?_
    refine x_get (M := mX3_edgesToCut) (pc := 6) kcX3 9 rfl q2844 dX3_edgesToCut_6 hM.1 rfl ?_
    refine x_val (M := mX3_edgesToCut) (pc := 9) (hB.1.1) ?_
    first | with_reducible refine x_icmp_geN (M := mX3_edgesToCut) (pc := 9) 69 dX3_edgesToCut_9 (by decide) (by omega) (by omega) (fun c1 => ?_) (fun c1 => ?_) | refine x_icmp_ge (M := mX3_edgesToCut) (pc := 9) 69 dX3_edgesToCut_9 (by decide) (fun c1 => ?_) (fun c1 => ?_)
    · omega
    · refine x_iload_n (M := mX3_edgesToCut) (pc := 12) dX3_edgesToCut_12 rfl ?_
      refine x_iconst (M := mX3_edgesToCut) (pc := 13) (v := nI 1) dX3_edgesToCut_13 (by decide) ?_
      first | with_reducible refine x_iaddN (M := mX3_edgesToCut) (pc := 14) dX3_edgesToCut_14 ?_ | refine x_iadd (M := mX3_edgesToCut) (pc := 14) dX3_edgesToCut_14 ?_
      refine x_istore3 (M := mX3_edgesToCut) (pc := 15) dX3_edgesToCut_15 ?_
      have hS := orN_lt (k := 4) (f := fun i => orN (fun j => p_bit 0 (p_se (zN s 7)) (p_edge (zWi s) ly i (i + 1 + j))) (zN16 s - (i + 1))) (fun i => orN_lt (k := 4) (fun j => p_bit_lt) _) i
      have := m_edgesToCut_l1 (l := l) (A := A) (m := m) (wd := wd) d hd s ly hB hW h hM Q i (by omega) _ hS (fun a4 => ?_) _ 0 (Nat.zero_add _) a4
      · rw [orN, Nat.or_zero] at this; exact this
      · first | refine x_iinc2N (M := mX3_edgesToCut) (pc := 63) (c := 1) dX3_edgesToCut_63 oI1 ?_ | refine x_iinc2 (M := mX3_edgesToCut) (pc := 63) (c := 1) dX3_edgesToCut_63 (by decide) ?_
        refine x_goto (M := mX3_edgesToCut) (pc := 66) 4 dX3_edgesToCut_66 (by decide) ?_
        exact ih (i + 1) (by omega) _ _
theorem m_edgesToCut (d : Nat) (hd : 3 ≤ d) (s : Row) (ly : Nat → Lay) (hB : BW I B s ly) (hW : WF s) : MCr g l mX3_edgesToCut d [] m A I B wd (some (.int (nI (zCuts s ly)))) := by
  intro h hM
  refine Ct.of [some (.ref m), none, none, none, none] (by decide +kernel) rfl (Nat.le_of_ble_eq_true rfl) rfl rfl ?_
  refine x_iconst (M := mX3_edgesToCut) (pc := 0) (v := nI 0) dX3_edgesToCut_0 (by decide) ?_
  refine x_istore1 (M := mX3_edgesToCut) (pc := 1) dX3_edgesToCut_1 ?_
  refine x_iconst (M := mX3_edgesToCut) (pc := 2) (v := nI 0) dX3_edgesToCut_2 (by decide) ?_
  refine x_istore2 (M := mX3_edgesToCut) (pc := 3) dX3_edgesToCut_3 ?_
  exact m_edgesToCut_l2 d hd s ly hB hW h hM _ ⟨rfl, rfl⟩ _ 0 (Nat.zero_add _) _ _
theorem BW_by {I' : Nat → Int32} {B' : Nat → Nat → Int32} {wd' : Int64} {s : Row} (hs : B 0 = s) (hW : WF s) {x : Int32} (hx : p_isRowI (zHi s) (zWi s) x = true) (hL : LF I B wd I' B' wd') (hY : LAYN I' B' (zHi s) (zWi s) (p_dig x.toNatClampNeg) (p_len x.toNatClampNeg)) : BW I' B' s (zBy s x) := by
  have hB0 : B' 0 = s := (hL.2.1 0 (by omega)).trans hs
  have h2 : p_isRow (zHi s) (zWi s) x.toNatClampNeg = true := by unfold p_isRowI at hx; exact (Bool.and_eq_true _ _ ▸ hx).2
  unfold p_isRow at h2
  simp only [Bool.and_eq_true, decide_eq_true_eq] at h2
  exact ⟨BK_of hW.1.2.2.2.2.1 h2.1.2 hY h2.2 (by rw [hB0]; exact hW.1.2.1), hB0⟩
theorem m_readsBy (d : Nat) (hd : 4 ≤ d) (hW : WF (B 0)) (x : Int32) : MC g l mX3_readsBy d [.int x] m A I B wd (QF I B (q_readsBy (B 0) x)) := by
  intro h hM
  have hF : MF m A h h := MF.rf
  refine Ct.of [some (.ref m), some (.int x)] (by decide +kernel) rfl (Nat.le_of_ble_eq_true rfl) rfl rfl ?_
  refine x_aload_n (M := mX3_readsBy) (pc := 0) dX3_readsBy_0 rfl ?_
  refine x_iload_n (M := mX3_readsBy) (pc := 1) dX3_readsBy_1 rfl ?_
  refine x_V1 (M := mX3_readsBy) (pc := 2) (M' := mX3_layBy) q3002 kVX3_layBy dX3_readsBy_2 (m_layBy (d - 1) _ _ x (by omega) hW.1.2.2.2.2.1 hW.1.1 hW.1.2.1 h hM) (hM.is) (fun v_ h hq_ => ?_)
  obtain ⟨v_, I_, B_, wd_, hv_, hQ, hM_, hF_⟩ := hq_
  cases hv_
  replace hF := hF.tr hF_
  replace hM := hM_
  clear hM_ hF_
  obtain ⟨rfl, hL, hY⟩ := hQ
  first | with_reducible refine x_ifB_eq (M := mX3_readsBy) (pc := 5) 15 dX3_readsBy_5 (by decide) (fun c5 => ?_) (fun c5 => ?_) | with_reducible refine x_if_eqN (M := mX3_readsBy) (pc := 5) 15 dX3_readsBy_5 (by decide) (by omega) (fun c5 => ?_) (fun c5 => ?_) | refine x_if_eq (M := mX3_readsBy) (pc := 5) 15 dX3_readsBy_5 (by decide) (fun c5 => ?_) (fun c5 => ?_)
  · refine x_iconst (M := mX3_readsBy) (pc := 15) (v := (-1)) dX3_readsBy_15 (by decide) ?_
    refine x_iret (M := mX3_readsBy) (pc := 16) dX3_readsBy_16 rfl (Nat.le_refl 0) (Nat.le_refl 0) ⟨_, _, _, _, rfl, ?_, hM, hF⟩
    exact QF.lf (by rw [q_readsBy, c5]; rfl) hL
  · refine x_aload_n (M := mX3_readsBy) (pc := 8) dX3_readsBy_8 rfl ?_
    refine x_V0 (M := mX3_readsBy) (pc := 9) (M' := mX3_ownPages) q3299 kVX3_ownPages dX3_readsBy_9 (m_ownPages (d - 1) (by omega) (B 0) (zBy (B 0) x) (BW_by rfl hW c5 hL (hY c5)) hW h hM) (hM.is) (fun v_ h hq_ => ?_)
    obtain ⟨hv_, rfl⟩ := hq_; cases hv_
    refine x_goto (M := mX3_readsBy) (pc := 12) 16 dX3_readsBy_12 (by decide) ?_
    refine x_iret (M := mX3_readsBy) (pc := 16) dX3_readsBy_16 rfl (Nat.le_refl 0) (Nat.le_refl 0) ⟨_, _, _, _, rfl, ?_, hM, hF⟩
    exact QF.lf (by rw [q_readsBy, c5]; rfl) hL
theorem m_cutsFor (d : Nat) (hd : 4 ≤ d) (hW : WF (B 0)) (x : Int32) : MC g l mX3_cutsFor d [.int x] m A I B wd (QF I B (q_cutsFor (B 0) x)) := by
  intro h hM
  have hF : MF m A h h := MF.rf
  refine Ct.of [some (.ref m), some (.int x)] (by decide +kernel) rfl (Nat.le_of_ble_eq_true rfl) rfl rfl ?_
  refine x_aload_n (M := mX3_cutsFor) (pc := 0) dX3_cutsFor_0 rfl ?_
  refine x_iload_n (M := mX3_cutsFor) (pc := 1) dX3_cutsFor_1 rfl ?_
  refine x_V1 (M := mX3_cutsFor) (pc := 2) (M' := mX3_layBy) q3002 kVX3_layBy dX3_cutsFor_2 (m_layBy (d - 1) _ _ x (by omega) hW.1.2.2.2.2.1 hW.1.1 hW.1.2.1 h hM) (hM.is) (fun v_ h hq_ => ?_)
  obtain ⟨v_, I_, B_, wd_, hv_, hQ, hM_, hF_⟩ := hq_
  cases hv_
  replace hF := hF.tr hF_
  replace hM := hM_
  clear hM_ hF_
  obtain ⟨rfl, hL, hY⟩ := hQ
  first | with_reducible refine x_ifB_eq (M := mX3_cutsFor) (pc := 5) 15 dX3_cutsFor_5 (by decide) (fun c5 => ?_) (fun c5 => ?_) | with_reducible refine x_if_eqN (M := mX3_cutsFor) (pc := 5) 15 dX3_cutsFor_5 (by decide) (by omega) (fun c5 => ?_) (fun c5 => ?_) | refine x_if_eq (M := mX3_cutsFor) (pc := 5) 15 dX3_cutsFor_5 (by decide) (fun c5 => ?_) (fun c5 => ?_)
  · refine x_iconst (M := mX3_cutsFor) (pc := 15) (v := (-1)) dX3_cutsFor_15 (by decide) ?_
    refine x_iret (M := mX3_cutsFor) (pc := 16) dX3_cutsFor_16 rfl (Nat.le_refl 0) (Nat.le_refl 0) ⟨_, _, _, _, rfl, ?_, hM, hF⟩
    exact QF.lf (by rw [q_cutsFor, c5]; rfl) hL
  · refine x_aload_n (M := mX3_cutsFor) (pc := 8) dX3_cutsFor_8 rfl ?_
    refine x_V0 (M := mX3_cutsFor) (pc := 9) (M' := mX3_edgesToCut) q3307 kVX3_edgesToCut dX3_cutsFor_9 (m_edgesToCut (d - 1) (by omega) (B 0) (zBy (B 0) x) (BW_by rfl hW c5 hL (hY c5)) hW h hM) (hM.is) (fun v_ h hq_ => ?_)
    obtain ⟨hv_, rfl⟩ := hq_; cases hv_
    refine x_goto (M := mX3_cutsFor) (pc := 12) 16 dX3_cutsFor_12 (by decide) ?_
    refine x_iret (M := mX3_cutsFor) (pc := 16) dX3_cutsFor_16 rfl (Nat.le_refl 0) (Nat.le_refl 0) ⟨_, _, _, _, rfl, ?_, hM, hF⟩
    exact QF.lf (by rw [q_cutsFor, c5]; rfl) hL
theorem m_pageOf_l (d : Nat) (hd : 3 ≤ d) (s : Row) (hB : BW I B s (zLy s)) (hW : WF s) (x : Int32) (h : xH) (hM : MR g h m A I B wd) (Q : xO → xH → Prop) (hE : Q (.inl (some (.int (if zPg s x = 2 * zN16 s then -9 else nI (zPg s x))))) h) : ∀ q k, k + q = 2 * zN16 s → zPg s x = fstN (fun pg => decide (s (90 + p_sd (zLy s) pg) = x)) q k → X g l mX3_pageOf d 0 0 Q 26 [some (.ref m), some (.int x), some (.int (nI k))] [] h 0 0 := by
  have b2 := hB.1.2.2.2.2.1
  intro q
  induction q with
  | zero =>
    intro k hk he
    refine x_iload_n (M := mX3_pageOf) (pc := 26) dX3_pageOf_26 rfl ?_
    refine x_iconst (M := mX3_pageOf) (pc := 27) (v := nI 2) dX3_pageOf_27 (by decide) ?_
    refine x_aload_n (M := mX3_pageOf) (pc := 28) dX3_pageOf_28 rfl ?_
    refine x_get (M := mX3_pageOf) (pc := 29) kcX3 9 rfl q2844 dX3_pageOf_29 hM.1 rfl ?_
    refine x_val (M := mX3_pageOf) (pc := 32) (hB.1.1) ?_
    first | with_reducible refine x_imulN (M := mX3_pageOf) (pc := 32) dX3_pageOf_32 ?_ | refine x_imul (M := mX3_pageOf) (pc := 32) dX3_pageOf_32 ?_
    first | with_reducible refine x_icmp_geN (M := mX3_pageOf) (pc := 33) 53 dX3_pageOf_33 (by decide) (by omega) (by omega) (fun c1 => ?_) (fun c1 => ?_) | refine x_icmp_ge (M := mX3_pageOf) (pc := 33) 53 dX3_pageOf_33 (by decide) (fun c1 => ?_) (fun c1 => ?_)
    · refine x_bipush (M := mX3_pageOf) (pc := 53) (v := (-9)) dX3_pageOf_53 (by decide) ?_
      have hz : zPg s x = 2 * zN16 s := by rw [he, fstN]; omega
      rw [if_pos hz] at hE
      exact x_iret (pc := 55) dX3_pageOf_55 rfl (Nat.le_refl 0) (Nat.le_refl 0) hE
    · omega
  | succ q ih =>
    intro k hk he
    refine x_iload_n (M := mX3_pageOf) (pc := 26) dX3_pageOf_26 rfl ?_
    refine x_iconst (M := mX3_pageOf) (pc := 27) (v := nI 2) dX3_pageOf_27 (by decide) ?_
    refine x_aload_n (M := mX3_pageOf) (pc := 28) dX3_pageOf_28 rfl ?_
    refine x_get (M := mX3_pageOf) (pc := 29) kcX3 9 rfl q2844 dX3_pageOf_29 hM.1 rfl ?_
    refine x_val (M := mX3_pageOf) (pc := 32) (hB.1.1) ?_
    first | with_reducible refine x_imulN (M := mX3_pageOf) (pc := 32) dX3_pageOf_32 ?_ | refine x_imul (M := mX3_pageOf) (pc := 32) dX3_pageOf_32 ?_
    first | with_reducible refine x_icmp_geN (M := mX3_pageOf) (pc := 33) 53 dX3_pageOf_33 (by decide) (by omega) (by omega) (fun c1 => ?_) (fun c1 => ?_) | refine x_icmp_ge (M := mX3_pageOf) (pc := 33) 53 dX3_pageOf_33 (by decide) (fun c1 => ?_) (fun c1 => ?_)
    · omega
    refine x_aload_n (M := mX3_pageOf) (pc := 36) dX3_pageOf_36 rfl ?_
    refine x_iload_n (M := mX3_pageOf) (pc := 37) dX3_pageOf_37 rfl ?_
    refine x_V1 (M := mX3_pageOf) (pc := 38) (M' := mX3_printedOn) q3217 kVX3_printedOn dX3_pageOf_38 (m_printedOn (d - 1) _ _ (zLy s) hB.1 k (by omega) (by omega) h hM) (hM.is) (fun v_ h hq_ => ?_)
    obtain ⟨hv_, rfl⟩ := hq_; cases hv_
    refine x_iload_n (M := mX3_pageOf) (pc := 41) dX3_pageOf_41 rfl ?_
    refine x_icmp_ne (M := mX3_pageOf) (pc := 42) 47 dX3_pageOf_42 (by decide) (fun r_1 => ?_) (fun r_1 => ?_)
    · first | refine x_iinc2N (M := mX3_pageOf) (pc := 47) (c := 1) dX3_pageOf_47 oI1 ?_ | refine x_iinc2 (M := mX3_pageOf) (pc := 47) (c := 1) dX3_pageOf_47 (by decide) ?_
      refine x_goto (M := mX3_pageOf) (pc := 50) 26 dX3_pageOf_50 (by decide) ?_
      refine ih (k + 1) (by omega) (he.trans ?_); rw [fstN, if_neg (by rw [hB.2] at r_1; simpa using r_1)]
    · refine x_iload_n (M := mX3_pageOf) (pc := 45) dX3_pageOf_45 rfl ?_
      have hz : zPg s x = k := by { rw [he, fstN, if_pos (by rw [hB.2] at r_1; simpa using r_1)] }; rw [hz, if_neg (by omega)] at hE; exact x_iret (pc := 46) dX3_pageOf_46 rfl (Nat.le_refl 0) (Nat.le_refl 0) hE
theorem BW_now {I' : Nat → Int32} {B' : Nat → Nat → Int32} {wd' : Int64} {s : Row} (hs : B 0 = s) (hW : WF s) (hb : zBook s = true) (hL : LF I B wd I' B' wd') (hY : LAYN I' B' (zHi s) (zWi s) (zFo s) (zNf s)) : BW I' B' s (zLy s) := by
  have hB0 : B' 0 = s := (hL.2.1 0 (by omega)).trans hs
  exact ⟨BK_of hW.1.2.2.2.2.1 hW.1.2.2.2.2.2 hY (of_decide_eq_true hb) (by rw [hB0]; exact hW.1.2.1), hB0⟩
theorem m_pageOf (d : Nat) (hd : 4 ≤ d) (hW : WF (B 0)) (x : Int32) : MC g l mX3_pageOf d [.int x] m A I B wd (QF I B (q_pageOf (B 0) x)) := by
  intro h hM
  have hF : MF m A h h := MF.rf
  refine Ct.of [some (.ref m), some (.int x), none] (by decide +kernel) rfl (Nat.le_of_ble_eq_true rfl) rfl rfl ?_
  refine x_aload_n (M := mX3_pageOf) (pc := 0) dX3_pageOf_0 rfl ?_
  refine x_V0 (M := mX3_pageOf) (pc := 1) (M' := mX3_isBooklet) q3023 kVX3_isBooklet dX3_pageOf_1 (m_isBooklet (d - 1) _ _ _ _ (by omega) hW.1 h hM) (hM.is) (fun v_ h hq_ => ?_)
  obtain ⟨v_, I_, B_, wd_, hv_, hQ, hM_, hF_⟩ := hq_
  cases hv_
  replace hF := hF.tr hF_
  replace hM := hM_
  clear hM_ hF_
  obtain ⟨rfl, hL, hY⟩ := hQ
  first | with_reducible refine x_ifB_ne (M := mX3_pageOf) (pc := 4) 10 dX3_pageOf_4 (by decide) (fun c4 => ?_) (fun c4 => ?_) | with_reducible refine x_if_neN (M := mX3_pageOf) (pc := 4) 10 dX3_pageOf_4 (by decide) (by omega) (fun c4 => ?_) (fun c4 => ?_) | refine x_if_ne (M := mX3_pageOf) (pc := 4) 10 dX3_pageOf_4 (by decide) (fun c4 => ?_) (fun c4 => ?_)
  rotate_left
  · refine x_bipush (M := mX3_pageOf) (pc := 7) (v := (-2)) dX3_pageOf_7 (by decide) ?_
    refine x_iret (M := mX3_pageOf) (pc := 9) dX3_pageOf_9 rfl (Nat.le_refl 0) (Nat.le_refl 0) ⟨_, _, _, _, rfl, ?_, hM, hF⟩
    exact QF.lf (by rw [q_pageOf, if_pos (show zBook (B 0) = false from c4)]) hL
  refine x_iload_n (M := mX3_pageOf) (pc := 10) dX3_pageOf_10 rfl ?_
  refine x_i2l (M := mX3_pageOf) (pc := 11) dX3_pageOf_11 ?_
  refine x_lconst (M := mX3_pageOf) (pc := 12) (v := 0) dX3_pageOf_12 (by decide) ?_
  refine x_ldc2 (M := mX3_pageOf) (pc := 13) dX3_pageOf_13 q2993 ?_
  refine x_S3 (M := mX3_pageOf) (pc := 16) (M' := mX3_in) q2949 kSX3_in dX3_pageOf_16 (m_inB h x 0 31 0 31 (by decide) (by decide) (d - 1)) (fun v_ h hq_ => ?_)
  obtain ⟨hv_, rfl⟩ := hq_; cases hv_
  first | with_reducible refine x_ifB_ne (M := mX3_pageOf) (pc := 19) 24 dX3_pageOf_19 (by decide) (fun c19 => ?_) (fun c19 => ?_) | with_reducible refine x_if_neN (M := mX3_pageOf) (pc := 19) 24 dX3_pageOf_19 (by decide) (by omega) (fun c19 => ?_) (fun c19 => ?_) | refine x_if_ne (M := mX3_pageOf) (pc := 19) 24 dX3_pageOf_19 (by decide) (fun c19 => ?_) (fun c19 => ?_)
  rotate_left
  · refine x_iconst (M := mX3_pageOf) (pc := 22) (v := (-1)) dX3_pageOf_22 (by decide) ?_
    refine x_iret (M := mX3_pageOf) (pc := 23) dX3_pageOf_23 rfl (Nat.le_refl 0) (Nat.le_refl 0) ⟨_, _, _, _, rfl, ?_, hM, hF⟩
    exact QF.lf (by rw [q_pageOf, if_neg (by rw [show zBook (B 0) = true from c4]; decide), if_pos c19]) hL
  refine x_iconst (M := mX3_pageOf) (pc := 24) (v := nI 0) dX3_pageOf_24 (by decide) ?_
  refine x_istore2 (M := mX3_pageOf) (pc := 25) dX3_pageOf_25 ?_
  skip
  refine m_pageOf_l d (by omega) (B 0) (BW_now rfl hW c4 hL hY) hW x h hM _ ?_ _ 0 (Nat.zero_add _) rfl
  have hq : q_pageOf (B 0) x = if zPg (B 0) x = 2 * zN16 (B 0) then -9 else nI (zPg (B 0) x) := by
    unfold q_pageOf
    rw [if_neg (show ¬ zBook (B 0) = false by rw [show zBook (B 0) = true from c4]; decide), if_neg (show ¬ bIn x 0 31 = false by rw [c19]; decide)]
  exact ⟨_, _, _, _, rfl, QF.lf (by rw [hq]) hL, hM, hF⟩
theorem m_reading_l (d : Nat) (hd : 4 ≤ d) (s : Row) (hB : BW I B s (zLy s)) (hW : WF s) (x : Int32) (h : xH) (hM : MR g h m A I B wd) (Q : xO → xH → Prop) (hE : X g l mX3_reading d 0 0 Q 58 [some (.ref m), some (.int x), some (.int (nI (zRd s)))] [] h 0 0) : ∀ q k, k + q = 2 * zN16 s → zRd s = fstN (fun pg => zHid s pg || !zOwn s (zLy s) pg) q k → X g l mX3_reading d 0 0 Q 26 [some (.ref m), some (.int x), some (.int (nI k))] [] h 0 0 := by
  have b2 := hB.1.2.2.2.2.1
  have hs7 : B 0 7 = nI (zN s 7) := by rw [hB.2]; exact hW.2.1.1
  have hs8 : B 0 8 = nI (zN s 8) := by rw [hB.2]; exact hW.2.2.1.1
  intro q
  induction q with
  | zero =>
    intro k hk he
    refine x_iload_n (M := mX3_reading) (pc := 26) dX3_reading_26 rfl ?_
    refine x_iconst (M := mX3_reading) (pc := 27) (v := nI 2) dX3_reading_27 (by decide) ?_
    refine x_aload_n (M := mX3_reading) (pc := 28) dX3_reading_28 rfl ?_
    refine x_get (M := mX3_reading) (pc := 29) kcX3 9 rfl q2844 dX3_reading_29 hM.1 rfl ?_
    refine x_val (M := mX3_reading) (pc := 32) (hB.1.1) ?_
    first | with_reducible refine x_imulN (M := mX3_reading) (pc := 32) dX3_reading_32 ?_ | refine x_imul (M := mX3_reading) (pc := 32) dX3_reading_32 ?_
    first | with_reducible refine x_icmp_geN (M := mX3_reading) (pc := 33) 58 dX3_reading_33 (by decide) (by omega) (by omega) (fun c1 => ?_) (fun c1 => ?_) | refine x_icmp_ge (M := mX3_reading) (pc := 33) 58 dX3_reading_33 (by decide) (fun c1 => ?_) (fun c1 => ?_)
    · rw [he] at hE; exact hE
    · omega
  | succ q ih =>
    intro k hk he
    refine x_iload_n (M := mX3_reading) (pc := 26) dX3_reading_26 rfl ?_
    refine x_iconst (M := mX3_reading) (pc := 27) (v := nI 2) dX3_reading_27 (by decide) ?_
    refine x_aload_n (M := mX3_reading) (pc := 28) dX3_reading_28 rfl ?_
    refine x_get (M := mX3_reading) (pc := 29) kcX3 9 rfl q2844 dX3_reading_29 hM.1 rfl ?_
    refine x_val (M := mX3_reading) (pc := 32) (hB.1.1) ?_
    first | with_reducible refine x_imulN (M := mX3_reading) (pc := 32) dX3_reading_32 ?_ | refine x_imul (M := mX3_reading) (pc := 32) dX3_reading_32 ?_
    first | with_reducible refine x_icmp_geN (M := mX3_reading) (pc := 33) 58 dX3_reading_33 (by decide) (by omega) (by omega) (fun c1 => ?_) (fun c1 => ?_) | refine x_icmp_ge (M := mX3_reading) (pc := 33) 58 dX3_reading_33 (by decide) (fun c1 => ?_) (fun c1 => ?_)
    · omega
    have hz : zHid s k = decide (p_shut (zN s 8) (p_se (zN s 7)) (zWi s) (zLy s) (zN16 s) ((k + 1) / 2) ≠ 0) := rfl
    refine x_aload_n (M := mX3_reading) (pc := 36) dX3_reading_36 rfl ?_
    refine x_iload_n (M := mX3_reading) (pc := 37) dX3_reading_37 rfl ?_
    refine x_V1 (M := mX3_reading) (pc := 38) (M' := mX3_isHidden) q3201 kVX3_isHidden dX3_reading_38 (m_isHidden (d - 1) _ _ (zLy s) hB.1 (zN s 7) hs7 hW.2.1.2 (zN s 8) hs8 hW.2.2.1.2 k (by omega) (by omega) h hM) (hM.is) (fun v_ h hq_ => ?_)
    obtain ⟨hv_, rfl⟩ := hq_; cases hv_
    first | with_reducible refine x_ifB_ne (M := mX3_reading) (pc := 41) 58 dX3_reading_41 (by decide) (fun c41 => ?_) (fun c41 => ?_) | with_reducible refine x_if_neN (M := mX3_reading) (pc := 41) 58 dX3_reading_41 (by decide) (by omega) (fun c41 => ?_) (fun c41 => ?_) | refine x_if_ne (M := mX3_reading) (pc := 41) 58 dX3_reading_41 (by decide) (fun c41 => ?_) (fun c41 => ?_)
    · rw [he, fstN, if_pos (by first | (rw [hz, c41]; rfl) | (simp only [zOwn]; rw [hB.2] at c49; rw [hz, c41]; simp [c49]))] at hE; exact hE
    · refine x_aload_n (M := mX3_reading) (pc := 44) dX3_reading_44 rfl ?_
      refine x_iload_n (M := mX3_reading) (pc := 45) dX3_reading_45 rfl ?_
      refine x_V1 (M := mX3_reading) (pc := 46) (M' := mX3_isItsOwn) q3213 kVX3_isItsOwn dX3_reading_46 (m_isItsOwn (d - 1) _ _ (zLy s) hB.1 (zN s 7) hs7 hW.2.1.2 (zTu s) (by rw [hB.2]; exact fun k hk => (hW.2.2.2.2.2.2.2.2.2.2 k hk).2) k (by omega) (by omega) h hM) (hM.is) (fun v_ h hq_ => ?_)
      obtain ⟨hv_, rfl⟩ := hq_; cases hv_
      first | with_reducible refine x_ifB_eq (M := mX3_reading) (pc := 49) 58 dX3_reading_49 (by decide) (fun c49 => ?_) (fun c49 => ?_) | with_reducible refine x_if_eqN (M := mX3_reading) (pc := 49) 58 dX3_reading_49 (by decide) (by omega) (fun c49 => ?_) (fun c49 => ?_) | refine x_if_eq (M := mX3_reading) (pc := 49) 58 dX3_reading_49 (by decide) (fun c49 => ?_) (fun c49 => ?_)
      · rw [he, fstN, if_pos (by first | (rw [hz, c41]; rfl) | (simp only [zOwn]; rw [hB.2] at c49; rw [hz, c41]; simp [c49]))] at hE; exact hE
      · first | refine x_iinc2N (M := mX3_reading) (pc := 52) (c := 1) dX3_reading_52 oI1 ?_ | refine x_iinc2 (M := mX3_reading) (pc := 52) (c := 1) dX3_reading_52 (by decide) ?_
        refine x_goto (M := mX3_reading) (pc := 55) 26 dX3_reading_55 (by decide) ?_
        refine ih (k + 1) (by omega) (he.trans ?_); rw [fstN, if_neg (by simp only [zOwn]; rw [hB.2] at c49; rw [hz, c41]; simp [c49])]
theorem m_reading (d : Nat) (hd : 4 ≤ d) (hW : WF (B 0)) (x : Int32) : MC g l mX3_reading d [.int x] m A I B wd (QF I B (q_reading (B 0) x)) := by
  intro h hM
  have hF : MF m A h h := MF.rf
  refine Ct.of [some (.ref m), some (.int x), none] (by decide +kernel) rfl (Nat.le_of_ble_eq_true rfl) rfl rfl ?_
  refine x_aload_n (M := mX3_reading) (pc := 0) dX3_reading_0 rfl ?_
  refine x_V0 (M := mX3_reading) (pc := 1) (M' := mX3_isBooklet) q3023 kVX3_isBooklet dX3_reading_1 (m_isBooklet (d - 1) _ _ _ _ (by omega) hW.1 h hM) (hM.is) (fun v_ h hq_ => ?_)
  obtain ⟨v_, I_, B_, wd_, hv_, hQ, hM_, hF_⟩ := hq_
  cases hv_
  replace hF := hF.tr hF_
  replace hM := hM_
  clear hM_ hF_
  obtain ⟨rfl, hL, hY⟩ := hQ
  first | with_reducible refine x_ifB_ne (M := mX3_reading) (pc := 4) 10 dX3_reading_4 (by decide) (fun c4 => ?_) (fun c4 => ?_) | with_reducible refine x_if_neN (M := mX3_reading) (pc := 4) 10 dX3_reading_4 (by decide) (by omega) (fun c4 => ?_) (fun c4 => ?_) | refine x_if_ne (M := mX3_reading) (pc := 4) 10 dX3_reading_4 (by decide) (fun c4 => ?_) (fun c4 => ?_)
  rotate_left
  · refine x_bipush (M := mX3_reading) (pc := 7) (v := (-2)) dX3_reading_7 (by decide) ?_
    refine x_iret (M := mX3_reading) (pc := 9) dX3_reading_9 rfl (Nat.le_refl 0) (Nat.le_refl 0) ⟨_, _, _, _, rfl, ?_, hM, hF⟩
    exact QF.lf (by rw [q_reading, if_pos (show zBook (B 0) = false from c4)]) hL
  refine x_iload_n (M := mX3_reading) (pc := 10) dX3_reading_10 rfl ?_
  refine x_i2l (M := mX3_reading) (pc := 11) dX3_reading_11 ?_
  refine x_lconst (M := mX3_reading) (pc := 12) (v := 0) dX3_reading_12 (by decide) ?_
  refine x_ldc2 (M := mX3_reading) (pc := 13) dX3_reading_13 q3245 ?_
  refine x_S3 (M := mX3_reading) (pc := 16) (M' := mX3_in) q2949 kSX3_in dX3_reading_16 (m_inB h x 0 2 0 2 (by decide) (by decide) (d - 1)) (fun v_ h hq_ => ?_)
  obtain ⟨hv_, rfl⟩ := hq_; cases hv_
  first | with_reducible refine x_ifB_ne (M := mX3_reading) (pc := 19) 24 dX3_reading_19 (by decide) (fun c19 => ?_) (fun c19 => ?_) | with_reducible refine x_if_neN (M := mX3_reading) (pc := 19) 24 dX3_reading_19 (by decide) (by omega) (fun c19 => ?_) (fun c19 => ?_) | refine x_if_ne (M := mX3_reading) (pc := 19) 24 dX3_reading_19 (by decide) (fun c19 => ?_) (fun c19 => ?_)
  rotate_left
  · refine x_iconst (M := mX3_reading) (pc := 22) (v := (-1)) dX3_reading_22 (by decide) ?_
    refine x_iret (M := mX3_reading) (pc := 23) dX3_reading_23 rfl (Nat.le_refl 0) (Nat.le_refl 0) ⟨_, _, _, _, rfl, ?_, hM, hF⟩
    exact QF.lf (by rw [q_reading, if_neg (by rw [show zBook (B 0) = true from c4]; decide), if_pos c19]) hL
  refine x_iconst (M := mX3_reading) (pc := 24) (v := nI 0) dX3_reading_24 (by decide) ?_
  refine x_istore2 (M := mX3_reading) (pc := 25) dX3_reading_25 ?_
  skip
  obtain ⟨w, rfl, -, hw⟩ := bIn_n (a := 0) (b := 2) (by omega) (by omega) c19
  have hB := BW_now rfl hW c4 hL hY
  have b2 := hB.1.2.2.2.2.1
  have hs7 : B_ 0 7 = nI (zN (B 0) 7) := by rw [hB.2]; exact hW.2.1.1
  have hs8 : B_ 0 8 = nI (zN (B 0) 8) := by rw [hB.2]; exact hW.2.2.1.1
  have hq0 : q_reading (B 0) (nI w) = if w = 0 then nI (zRd (B 0)) else if zRd (B 0) = 2 * zN16 (B 0) then -9 else if w = 1 then nI (zRd (B 0)) else
      if zHid (B 0) (zRd (B 0)) then 1 else if B 0 (90 + p_sd (zLy (B 0)) (zRd (B 0))) < 0 then 2 else if B 0 (90 + p_sd (zLy (B 0)) (zRd (B 0))) = nI (zRd (B 0)) then 4 else 3 := by
    rw [q_reading, if_neg (by rw [show zBook (B 0) = true from c4]; decide), if_neg (by rw [c19]; decide)]
    have a0 : (nI w = 0) ↔ w = 0 := nI_z0 (by omega)
    have a1 : (nI w = 1) ↔ w = 1 := nI_eq (b := 1) (by omega) (by omega)
    simp only [a0, a1]
  have hle := (fstN_le (fun pg => zHid (B 0) pg || !zOwn (B 0) (zLy (B 0)) pg) (2 * zN16 (B 0)) 0).2
  have hR : zRd (B 0) ≤ 2 * zN16 (B 0) := by rw [Nat.zero_add] at hle; exact hle
  refine m_reading_l d (by omega) (B 0) hB hW _ h hM _ ?_ _ 0 (Nat.zero_add _) rfl
  have hz : decide (p_shut (zN (B 0) 8) (p_se (zN (B 0) 7)) (zWi (B 0)) (zLy (B 0)) (zN16 (B 0)) ((zRd (B 0) + 1) / 2) ≠ 0) = zHid (B 0) (zRd (B 0)) := rfl
  refine x_iload_n (M := mX3_reading) (pc := 58) dX3_reading_58 rfl ?_
  first | with_reducible refine x_ifB_ne (M := mX3_reading) (pc := 59) 64 dX3_reading_59 (by decide) (fun c59 => ?_) (fun c59 => ?_) | with_reducible refine x_if_neN (M := mX3_reading) (pc := 59) 64 dX3_reading_59 (by decide) (by omega) (fun c59 => ?_) (fun c59 => ?_) | refine x_if_ne (M := mX3_reading) (pc := 59) 64 dX3_reading_59 (by decide) (fun c59 => ?_) (fun c59 => ?_)
  · refine x_iload_n (M := mX3_reading) (pc := 64) dX3_reading_64 rfl ?_
    refine x_iconst (M := mX3_reading) (pc := 65) (v := nI 2) dX3_reading_65 (by decide) ?_
    refine x_aload_n (M := mX3_reading) (pc := 66) dX3_reading_66 rfl ?_
    refine x_get (M := mX3_reading) (pc := 67) kcX3 9 rfl q2844 dX3_reading_67 hM.1 rfl ?_
    refine x_val (M := mX3_reading) (pc := 70) (hB.1.1) ?_
    first | with_reducible refine x_imulN (M := mX3_reading) (pc := 70) dX3_reading_70 ?_ | refine x_imul (M := mX3_reading) (pc := 70) dX3_reading_70 ?_
    first | with_reducible refine x_icmp_neN (M := mX3_reading) (pc := 71) 77 dX3_reading_71 (by decide) (by omega) (by omega) (fun c71 => ?_) (fun c71 => ?_) | refine x_icmp_ne (M := mX3_reading) (pc := 71) 77 dX3_reading_71 (by decide) (fun c71 => ?_) (fun c71 => ?_)
    · refine x_iload_n (M := mX3_reading) (pc := 77) dX3_reading_77 rfl ?_
      refine x_iconst (M := mX3_reading) (pc := 78) (v := nI 1) dX3_reading_78 (by decide) ?_
      first | with_reducible refine x_icmp_neN (M := mX3_reading) (pc := 79) 86 dX3_reading_79 (by decide) (by omega) (by omega) (fun c79 => ?_) (fun c79 => ?_) | refine x_icmp_ne (M := mX3_reading) (pc := 79) 86 dX3_reading_79 (by decide) (fun c79 => ?_) (fun c79 => ?_)
      · refine x_aload_n (M := mX3_reading) (pc := 86) dX3_reading_86 rfl ?_
        refine x_iload_n (M := mX3_reading) (pc := 87) dX3_reading_87 rfl ?_
        refine x_V1 (M := mX3_reading) (pc := 88) (M' := mX3_isHidden) q3201 kVX3_isHidden dX3_reading_88 (m_isHidden (d - 1) _ _ (zLy (B 0)) hB.1 (zN (B 0) 7) hs7 hW.2.1.2 (zN (B 0) 8) hs8 hW.2.2.1.2 (zRd (B 0)) (by omega) (by omega) h hM) (hM.is) (fun v_ h hq_ => ?_)
        obtain ⟨hv_, rfl⟩ := hq_; cases hv_
        first | with_reducible refine x_ifB_eq (M := mX3_reading) (pc := 91) 98 dX3_reading_91 (by decide) (fun c91 => ?_) (fun c91 => ?_) | with_reducible refine x_if_eqN (M := mX3_reading) (pc := 91) 98 dX3_reading_91 (by decide) (by omega) (fun c91 => ?_) (fun c91 => ?_) | refine x_if_eq (M := mX3_reading) (pc := 91) 98 dX3_reading_91 (by decide) (fun c91 => ?_) (fun c91 => ?_)
        · refine x_aload_n (M := mX3_reading) (pc := 98) dX3_reading_98 rfl ?_
          refine x_iload_n (M := mX3_reading) (pc := 99) dX3_reading_99 rfl ?_
          refine x_V1 (M := mX3_reading) (pc := 100) (M' := mX3_printedOn) q3217 kVX3_printedOn dX3_reading_100 (m_printedOn (d - 1) _ _ (zLy (B 0)) hB.1 (zRd (B 0)) (by omega) (by omega) h hM) (hM.is) (fun v_ h hq_ => ?_)
          obtain ⟨hv_, rfl⟩ := hq_; cases hv_
          refine x_if_ge (M := mX3_reading) (pc := 103) 110 dX3_reading_103 (by decide) (fun r_1 => ?_) (fun r_1 => ?_)
          · refine x_aload_n (M := mX3_reading) (pc := 110) dX3_reading_110 rfl ?_
            refine x_iload_n (M := mX3_reading) (pc := 111) dX3_reading_111 rfl ?_
            refine x_V1 (M := mX3_reading) (pc := 112) (M' := mX3_printedOn) q3217 kVX3_printedOn dX3_reading_112 (m_printedOn (d - 1) _ _ (zLy (B 0)) hB.1 (zRd (B 0)) (by omega) (by omega) h hM) (hM.is) (fun v_ h hq_ => ?_)
            obtain ⟨hv_, rfl⟩ := hq_; cases hv_
            refine x_iload_n (M := mX3_reading) (pc := 115) dX3_reading_115 rfl ?_
            refine x_icmp_eq (M := mX3_reading) (pc := 116) 123 dX3_reading_116 (by decide) (fun r_2 => ?_) (fun r_2 => ?_)
            · refine x_iconst (M := mX3_reading) (pc := 123) (v := nI 4) dX3_reading_123 (by decide) ?_
              refine x_iret (M := mX3_reading) (pc := 124) dX3_reading_124 rfl (Nat.le_refl 0) (Nat.le_refl 0) ⟨_, _, _, _, rfl, ?_, hM, hF⟩
              refine QF.lf ?_ hL; rw [hq0]; first | (rw [if_pos c59]; done) | (rw [if_neg c59, if_pos c71]; done) | (rw [if_neg c59, if_neg c71, if_pos c79]; done) | (rw [hz] at c91; rw [if_neg c59, if_neg c71, if_neg c79, c91]; rfl) | (rw [hz] at c91; rw [hB.2] at r_1; rw [if_neg c59, if_neg c71, if_neg c79, c91, if_neg (by decide), if_pos (by simpa using r_1)]; rfl) | (rw [hz] at c91; rw [hB.2] at r_1 r_2; rw [if_neg c59, if_neg c71, if_neg c79, c91, if_neg (by decide), if_neg (by simpa using r_1), if_pos r_2]; rfl) | (rw [hz] at c91; rw [hB.2] at r_1 r_2; rw [if_neg c59, if_neg c71, if_neg c79, c91, if_neg (by decide), if_neg (by simpa using r_1), if_neg r_2]; rfl)
            · refine x_iconst (M := mX3_reading) (pc := 119) (v := nI 3) dX3_reading_119 (by decide) ?_
              refine x_goto (M := mX3_reading) (pc := 120) 124 dX3_reading_120 (by decide) ?_
              refine x_iret (M := mX3_reading) (pc := 124) dX3_reading_124 rfl (Nat.le_refl 0) (Nat.le_refl 0) ⟨_, _, _, _, rfl, ?_, hM, hF⟩
              refine QF.lf ?_ hL; rw [hq0]; first | (rw [if_pos c59]; done) | (rw [if_neg c59, if_pos c71]; done) | (rw [if_neg c59, if_neg c71, if_pos c79]; done) | (rw [hz] at c91; rw [if_neg c59, if_neg c71, if_neg c79, c91]; rfl) | (rw [hz] at c91; rw [hB.2] at r_1; rw [if_neg c59, if_neg c71, if_neg c79, c91, if_neg (by decide), if_pos (by simpa using r_1)]; rfl) | (rw [hz] at c91; rw [hB.2] at r_1 r_2; rw [if_neg c59, if_neg c71, if_neg c79, c91, if_neg (by decide), if_neg (by simpa using r_1), if_pos r_2]; rfl) | (rw [hz] at c91; rw [hB.2] at r_1 r_2; rw [if_neg c59, if_neg c71, if_neg c79, c91, if_neg (by decide), if_neg (by simpa using r_1), if_neg r_2]; rfl)
          · refine x_iconst (M := mX3_reading) (pc := 106) (v := nI 2) dX3_reading_106 (by decide) ?_
            refine x_goto (M := mX3_reading) (pc := 107) 124 dX3_reading_107 (by decide) ?_
            refine x_iret (M := mX3_reading) (pc := 124) dX3_reading_124 rfl (Nat.le_refl 0) (Nat.le_refl 0) ⟨_, _, _, _, rfl, ?_, hM, hF⟩
            refine QF.lf ?_ hL; rw [hq0]; first | (rw [if_pos c59]; done) | (rw [if_neg c59, if_pos c71]; done) | (rw [if_neg c59, if_neg c71, if_pos c79]; done) | (rw [hz] at c91; rw [if_neg c59, if_neg c71, if_neg c79, c91]; rfl) | (rw [hz] at c91; rw [hB.2] at r_1; rw [if_neg c59, if_neg c71, if_neg c79, c91, if_neg (by decide), if_pos (by simpa using r_1)]; rfl) | (rw [hz] at c91; rw [hB.2] at r_1 r_2; rw [if_neg c59, if_neg c71, if_neg c79, c91, if_neg (by decide), if_neg (by simpa using r_1), if_pos r_2]; rfl) | (rw [hz] at c91; rw [hB.2] at r_1 r_2; rw [if_neg c59, if_neg c71, if_neg c79, c91, if_neg (by decide), if_neg (by simpa using r_1), if_neg r_2]; rfl)
        · refine x_iconst (M := mX3_reading) (pc := 94) (v := nI 1) dX3_reading_94 (by decide) ?_
          refine x_goto (M := mX3_reading) (pc := 95) 124 dX3_reading_95 (by decide) ?_
          refine x_iret (M := mX3_reading) (pc := 124) dX3_reading_124 rfl (Nat.le_refl 0) (Nat.le_refl 0) ⟨_, _, _, _, rfl, ?_, hM, hF⟩
          refine QF.lf ?_ hL; rw [hq0]; first | (rw [if_pos c59]; done) | (rw [if_neg c59, if_pos c71]; done) | (rw [if_neg c59, if_neg c71, if_pos c79]; done) | (rw [hz] at c91; rw [if_neg c59, if_neg c71, if_neg c79, c91]; rfl) | (rw [hz] at c91; rw [hB.2] at r_1; rw [if_neg c59, if_neg c71, if_neg c79, c91, if_neg (by decide), if_pos (by simpa using r_1)]; rfl) | (rw [hz] at c91; rw [hB.2] at r_1 r_2; rw [if_neg c59, if_neg c71, if_neg c79, c91, if_neg (by decide), if_neg (by simpa using r_1), if_pos r_2]; rfl) | (rw [hz] at c91; rw [hB.2] at r_1 r_2; rw [if_neg c59, if_neg c71, if_neg c79, c91, if_neg (by decide), if_neg (by simpa using r_1), if_neg r_2]; rfl)
      · refine x_iload_n (M := mX3_reading) (pc := 82) dX3_reading_82 rfl ?_
        refine x_goto (M := mX3_reading) (pc := 83) 124 dX3_reading_83 (by decide) ?_
        refine x_iret (M := mX3_reading) (pc := 124) dX3_reading_124 rfl (Nat.le_refl 0) (Nat.le_refl 0) ⟨_, _, _, _, rfl, ?_, hM, hF⟩
        refine QF.lf ?_ hL; rw [hq0]; first | (rw [if_pos c59]; done) | (rw [if_neg c59, if_pos c71]; done) | (rw [if_neg c59, if_neg c71, if_pos c79]; done) | (rw [hz] at c91; rw [if_neg c59, if_neg c71, if_neg c79, c91]; rfl) | (rw [hz] at c91; rw [hB.2] at r_1; rw [if_neg c59, if_neg c71, if_neg c79, c91, if_neg (by decide), if_pos (by simpa using r_1)]; rfl) | (rw [hz] at c91; rw [hB.2] at r_1 r_2; rw [if_neg c59, if_neg c71, if_neg c79, c91, if_neg (by decide), if_neg (by simpa using r_1), if_pos r_2]; rfl) | (rw [hz] at c91; rw [hB.2] at r_1 r_2; rw [if_neg c59, if_neg c71, if_neg c79, c91, if_neg (by decide), if_neg (by simpa using r_1), if_neg r_2]; rfl)
    · refine x_bipush (M := mX3_reading) (pc := 74) (v := (-9)) dX3_reading_74 (by decide) ?_
      refine x_iret (M := mX3_reading) (pc := 76) dX3_reading_76 rfl (Nat.le_refl 0) (Nat.le_refl 0) ⟨_, _, _, _, rfl, ?_, hM, hF⟩
      refine QF.lf ?_ hL; rw [hq0]; first | (rw [if_pos c59]; done) | (rw [if_neg c59, if_pos c71]; done) | (rw [if_neg c59, if_neg c71, if_pos c79]; done) | (rw [hz] at c91; rw [if_neg c59, if_neg c71, if_neg c79, c91]; rfl) | (rw [hz] at c91; rw [hB.2] at r_1; rw [if_neg c59, if_neg c71, if_neg c79, c91, if_neg (by decide), if_pos (by simpa using r_1)]; rfl) | (rw [hz] at c91; rw [hB.2] at r_1 r_2; rw [if_neg c59, if_neg c71, if_neg c79, c91, if_neg (by decide), if_neg (by simpa using r_1), if_pos r_2]; rfl) | (rw [hz] at c91; rw [hB.2] at r_1 r_2; rw [if_neg c59, if_neg c71, if_neg c79, c91, if_neg (by decide), if_neg (by simpa using r_1), if_neg r_2]; rfl)
  · refine x_iload_n (M := mX3_reading) (pc := 62) dX3_reading_62 rfl ?_
    refine x_iret (M := mX3_reading) (pc := 63) dX3_reading_63 rfl (Nat.le_refl 0) (Nat.le_refl 0) ⟨_, _, _, _, rfl, ?_, hM, hF⟩
    refine QF.lf ?_ hL; rw [hq0]; first | (rw [if_pos c59]; done) | (rw [if_neg c59, if_pos c71]; done) | (rw [if_neg c59, if_neg c71, if_pos c79]; done) | (rw [hz] at c91; rw [if_neg c59, if_neg c71, if_neg c79, c91]; rfl) | (rw [hz] at c91; rw [hB.2] at r_1; rw [if_neg c59, if_neg c71, if_neg c79, c91, if_neg (by decide), if_pos (by simpa using r_1)]; rfl) | (rw [hz] at c91; rw [hB.2] at r_1 r_2; rw [if_neg c59, if_neg c71, if_neg c79, c91, if_neg (by decide), if_neg (by simpa using r_1), if_pos r_2]; rfl) | (rw [hz] at c91; rw [hB.2] at r_1 r_2; rw [if_neg c59, if_neg c71, if_neg c79, c91, if_neg (by decide), if_neg (by simpa using r_1), if_neg r_2]; rfl)
end MODELF

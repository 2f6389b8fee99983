section MODELS
set_option maxRecDepth 100000
def t_ed (w : Int64) : Option Nat := if w = 398548 then some 0 else if w = 19176724 then some 1 else if w = 20976 then some 2 else if w = 83513837 then some 3 else none
def t_eg (tx : Nat → Nat) (len p : Nat) : Nat := if (t_ed (t_wo tx len p)).isSome then t_sp tx len p else p
/-- the parser moved: the token read last is the one after p -/
def PM (I0 : Nat → Int32) (B0 : Nat → Nat → Int32) (I : Nat → Int32) (B : Nat → Nat → Int32) (wd : Int64) (tx : Nat → Nat) (len p : Nat) : Prop := TX I B len tx ∧ TK I wd tx len p ∧ (∀ j, j ≠ 18 → j ≠ 19 → j ≠ 20 → j ≠ 22 → I j = I0 j) ∧ B = B0
variable {g : xG} {l : Launch} {m : Nat} {A : Nat → Nat} {I : Nat → Int32} {B : Nat → Nat → Int32} {wd : Int64}
theorem NX.pm {I' : Nat → Int32} {B' : Nat → Nat → Int32} {wd' : Int64} {v : Option Value} {tx : Nat → Nat} {len p : Nat} (hT : TX I B len tx) (hp : p ≤ len) (h : NX I B tx len p v I' B' wd') : PM I B I' B' wd' tx len p := ⟨h.tx hT, h.tk hp, h.2.2.1, h.2.1⟩
theorem PM.tr {I1 I2 : Nat → Int32} {B1 B2 : Nat → Nat → Int32} {w1 w2 : Int64} {tx : Nat → Nat} {len p p2 : Nat} (a : PM I B I1 B1 w1 tx len p) (b : PM I1 B1 I2 B2 w2 tx len p2) : PM I B I2 B2 w2 tx len p2 := ⟨b.1, b.2.1, fun j j1 j2 j3 j4 => (b.2.2.1 j j1 j2 j3 j4).trans (a.2.2.1 j j1 j2 j3 j4), b.2.2.2.trans a.2.2.2⟩
theorem m_edgeWord (d len p : Nat) (tx : Nat → Nat) (hd : 4 ≤ d) (hT : TX I B len tx) (hp : I 18 = nI p) (hpl : p ≤ len) : MC g l mX3_edgeWord d [] m A I B wd (fun v I' B' wd' => v = some (.int (eI (t_ed (t_wo tx len p)))) ∧ PM I B I' B' wd' tx len (t_eg tx len p)) := by
  intro h hM
  have hF : MF m A h h := MF.rf
  refine Ct.of [some (.ref m), none] (by decide +kernel) rfl (Nat.le_of_ble_eq_true rfl) rfl rfl ?_
  refine x_aload_n (M := mX3_edgeWord) (pc := 0) dX3_edgeWord_0 rfl ?_
  refine x_V0 (M := mX3_edgeWord) (pc := 1) (M' := mX3_next) q3106 kVX3_next dX3_edgeWord_1 (m_next (d - 1) len p tx (by omega) hT hp hpl h hM) (hM.is) (fun v_ h hq_ => ?_)
  obtain ⟨v_, I_, B_, wd_, hv_, hQ, hM_, hF_⟩ := hq_
  cases hv_
  replace hF := hF.tr hF_
  replace hM := hM_
  clear hM_ hF_
  have hP := NX.pm hT hpl hQ
  have hv := hQ.1
  subst hv
  clear hQ
  have hw : wd_ = t_wo tx len p := hP.2.1.2.2.1
  have hsp := t_sp_le (tx := tx) hpl
  refine x_joinV 65 (eI (t_ed (t_wo tx len p))) (fun J => ?_) ?_
  · refine x_aload_n (M := mX3_edgeWord) (pc := 4) dX3_edgeWord_4 rfl ?_
    refine x_get (M := mX3_edgeWord) (pc := 5) kcX3 21 rfl q2856 dX3_edgeWord_5 hM.1 rfl ?_
    refine x_ldc2 (M := mX3_edgeWord) (pc := 8) dX3_edgeWord_8 q3150 ?_
    refine x_lcmp (M := mX3_edgeWord) (pc := 11) dX3_edgeWord_11 ?_
    refine x_if_ne (M := mX3_edgeWord) (pc := 12) 19 dX3_edgeWord_12 (by decide) (fun r_1 => ?_) (fun r_1 => ?_)
    · refine x_aload_n (M := mX3_edgeWord) (pc := 19) dX3_edgeWord_19 rfl ?_
      refine x_get (M := mX3_edgeWord) (pc := 20) kcX3 21 rfl q2856 dX3_edgeWord_20 hM.1 rfl ?_
      refine x_ldc2 (M := mX3_edgeWord) (pc := 23) dX3_edgeWord_23 q3151 ?_
      refine x_lcmp (M := mX3_edgeWord) (pc := 26) dX3_edgeWord_26 ?_
      refine x_if_ne (M := mX3_edgeWord) (pc := 27) 34 dX3_edgeWord_27 (by decide) (fun r_2 => ?_) (fun r_2 => ?_)
      · refine x_aload_n (M := mX3_edgeWord) (pc := 34) dX3_edgeWord_34 rfl ?_
        refine x_get (M := mX3_edgeWord) (pc := 35) kcX3 21 rfl q2856 dX3_edgeWord_35 hM.1 rfl ?_
        refine x_ldc2 (M := mX3_edgeWord) (pc := 38) dX3_edgeWord_38 q3152 ?_
        refine x_lcmp (M := mX3_edgeWord) (pc := 41) dX3_edgeWord_41 ?_
        refine x_if_ne (M := mX3_edgeWord) (pc := 42) 49 dX3_edgeWord_42 (by decide) (fun r_3 => ?_) (fun r_3 => ?_)
        · refine x_aload_n (M := mX3_edgeWord) (pc := 49) dX3_edgeWord_49 rfl ?_
          refine x_get (M := mX3_edgeWord) (pc := 50) kcX3 21 rfl q2856 dX3_edgeWord_50 hM.1 rfl ?_
          refine x_ldc2 (M := mX3_edgeWord) (pc := 53) dX3_edgeWord_53 q3153 ?_
          refine x_lcmp (M := mX3_edgeWord) (pc := 56) dX3_edgeWord_56 ?_
          refine x_if_ne (M := mX3_edgeWord) (pc := 57) 64 dX3_edgeWord_57 (by decide) (fun r_4 => ?_) (fun r_4 => ?_)
          · refine x_iconst (M := mX3_edgeWord) (pc := 64) (v := (-1)) dX3_edgeWord_64 (by decide) ?_
            exact J _ (by rw [lg_eq, hw] at *; simp only [t_ed, *]; rfl)
          · refine x_iconst (M := mX3_edgeWord) (pc := 60) (v := nI 3) dX3_edgeWord_60 (by decide) ?_
            refine x_goto (M := mX3_edgeWord) (pc := 61) 65 dX3_edgeWord_61 (by decide) ?_
            exact J _ (by rw [lg_eq, hw] at *; simp only [t_ed, *]; rfl)
        · refine x_iconst (M := mX3_edgeWord) (pc := 45) (v := nI 2) dX3_edgeWord_45 (by decide) ?_
          refine x_goto (M := mX3_edgeWord) (pc := 46) 65 dX3_edgeWord_46 (by decide) ?_
          exact J _ (by rw [lg_eq, hw] at *; simp only [t_ed, *]; rfl)
      · refine x_iconst (M := mX3_edgeWord) (pc := 30) (v := nI 1) dX3_edgeWord_30 (by decide) ?_
        refine x_goto (M := mX3_edgeWord) (pc := 31) 65 dX3_edgeWord_31 (by decide) ?_
        exact J _ (by rw [lg_eq, hw] at *; simp only [t_ed, *]; rfl)
    · refine x_iconst (M := mX3_edgeWord) (pc := 15) (v := nI 0) dX3_edgeWord_15 (by decide) ?_
      refine x_goto (M := mX3_edgeWord) (pc := 16) 65 dX3_edgeWord_16 (by decide) ?_
      exact J _ (by rw [lg_eq, hw] at *; simp only [t_ed, *]; rfl)
  refine x_istore1 (M := mX3_edgeWord) (pc := 65) dX3_edgeWord_65 ?_
  skip
  cases he : t_ed (t_wo tx len p) with
  | none =>
    have hg : t_eg tx len p = p := by unfold t_eg; rw [he]; rfl
    refine x_iload_n (M := mX3_edgeWord) (pc := 66) dX3_edgeWord_66 rfl ?_
    refine x_val (M := mX3_edgeWord) (pc := 67) ((show eI none = -1 from rfl)) ?_
    first | refine x_if_lt (M := mX3_edgeWord) (pc := 67) 74 dX3_edgeWord_67 (by decide) (fun c67 => ?_) (fun c67 => ?_)
    · refine x_iload_n (M := mX3_edgeWord) (pc := 74) dX3_edgeWord_74 rfl ?_
      refine x_iret (M := mX3_edgeWord) (pc := 75) dX3_edgeWord_75 rfl (Nat.le_refl 0) (Nat.le_refl 0) ⟨_, _, _, _, rfl, ?_, hM, hF⟩
      rw [hg]; exact ⟨rfl, hP⟩
    · exact absurd (by decide) c67
  | some e =>
    have hg : t_eg tx len p = t_sp tx len p := by unfold t_eg; rw [he]; rfl
    have he4 : e < 4 := by unfold t_ed at he; (repeat' split at he) <;> first | (cases he; omega) | cases he
    refine x_iload_n (M := mX3_edgeWord) (pc := 66) dX3_edgeWord_66 rfl ?_
    refine x_val (M := mX3_edgeWord) (pc := 67) ((show eI (some e) = nI e from rfl)) ?_
    first | refine x_if_lt (M := mX3_edgeWord) (pc := 67) 74 dX3_edgeWord_67 (by decide) (fun c67 => ?_) (fun c67 => ?_)
    · exact absurd c67 (nI_pos (by omega))
    · refine x_aload_n (M := mX3_edgeWord) (pc := 70) dX3_edgeWord_70 rfl ?_
      refine x_V0 (M := mX3_edgeWord) (pc := 71) (M' := mX3_next) q3106 kVX3_next dX3_edgeWord_71 (m_next (d - 1) len (t_sp tx len p) tx (by omega) hP.1 hP.2.1.1 hsp h hM) (hM.is) (fun v_ h hq_ => ?_)
      obtain ⟨v_, I_, B_, wd_, hv_, hQ, hM_, hF_⟩ := hq_
      cases hv_
      replace hF := hF.tr hF_
      replace hM := hM_
      clear hM_ hF_
      have hP2 := NX.pm hP.1 hsp hQ; have hv := hQ.1; subst hv
      refine x_iload_n (M := mX3_edgeWord) (pc := 74) dX3_edgeWord_74 rfl ?_
      refine x_iret (M := mX3_edgeWord) (pc := 75) dX3_edgeWord_75 rfl (Nat.le_refl 0) (Nat.le_refl 0) ⟨_, _, _, _, rfl, ?_, hM, hF⟩
      rw [hg]; exact ⟨rfl, hP.tr hP2⟩
end MODELS

section MODEL3
set_option maxRecDepth 100000
variable {g : xG} {l : Launch} {m : Nat} {A : Nat → Nat} {I : Nat → Int32} {B : Nat → Nat → Int32} {wd : Int64}
/-- the layers that lie in the reference's arrays -/
def LAY (I : Nat → Int32) (B : Nat → Nat → Int32) (hi wi ma : Nat) (ly : Nat → Lay) : Prop := I 7 = nI hi ∧ I 8 = nI wi ∧ I 9 = nI ma ∧ ∀ t, t < hi * wi * ma → B 10 t = nI (ly t).1 ∧ B 11 t = bI (p_side (ly t)) ∧ B 12 t = bI (ly t).2.1 ∧ B 13 t = bI (ly t).2.2
/-- only the layers' numbers and arrays have changed -/
def LF (I : Nat → Int32) (B : Nat → Nat → Int32) (wd : Int64) (I' : Nat → Int32) (B' : Nat → Nat → Int32) (wd' : Int64) : Prop := (∀ j, j ≠ 7 → j ≠ 8 → j ≠ 9 → I' j = I j) ∧ (∀ j, j < 10 ∨ 17 < j → B' j = B j) ∧ wd' = wd
theorem LF.rf : LF I B wd I B wd := ⟨fun _ _ _ _ => rfl, fun _ _ => rfl, rfl⟩
theorem LF.tr {I1 I2 : Nat → Int32} {B1 B2 : Nat → Nat → Int32} {w1 w2 : Int64} (a : LF I B wd I1 B1 w1) (b : LF I1 B1 w1 I2 B2 w2) : LF I B wd I2 B2 w2 :=
  ⟨fun j x y z => (b.1 j x y z).trans (a.1 j x y z), fun j x => (b.2.1 j x).trans (a.2.1 j x), b.2.2.trans a.2.2⟩
def p_take (B : Nat → Nat → Int32) (to fr tn : Nat) : Nat → Nat → Int32 := fun j t => if t = to then (if j = 10 then B 14 fr else if j = 11 then (if tn = 0 then B 15 fr else 1 - B 15 fr) else if j = 12 then (if tn = 1 then 1 - B 16 fr else B 16 fr) else if j = 13 then (if tn = 2 then 1 - B 17 fr else B 17 fr) else B j t) else B j t
theorem m_takeLayer (d to fr tn : Nat) (h1 : to < 16) (h2 : fr < 16) (h3 : tn < 3) : MC g l mX3_takeLayer d [.int (nI to), .int (nI fr), .int (nI tn)] m A I B wd (fun v I' B' wd' => v = none ∧ I' = I ∧ B' = p_take B to fr tn ∧ wd' = wd) := by
  intro h hM
  have hF : MF m A h h := MF.rf
  refine Ct.of [some (.ref m), some (.int (nI to)), some (.int (nI fr)), some (.int (nI tn))] (by decide +kernel) rfl (Nat.le_of_ble_eq_true rfl) rfl rfl ?_
  refine x_aload_n (M := mX3_takeLayer) (pc := 0) dX3_takeLayer_0 rfl ?_
  refine x_get (M := mX3_takeLayer) (pc := 1) kcX3 10 rfl q2845 dX3_takeLayer_1 hM.1 rfl ?_
  refine x_iload_n (M := mX3_takeLayer) (pc := 4) dX3_takeLayer_4 rfl ?_
  refine x_aload_n (M := mX3_takeLayer) (pc := 5) dX3_takeLayer_5 rfl ?_
  refine x_get (M := mX3_takeLayer) (pc := 6) kcX3 14 rfl q2849 dX3_takeLayer_6 hM.1 rfl ?_
  refine x_iload_n (M := mX3_takeLayer) (pc := 9) dX3_takeLayer_9 rfl ?_
  refine xm_iald (M := mX3_takeLayer) (pc := 10) hM dX3_takeLayer_10 (by decide) (by first | decide | (simp only [mSz] <;> omega)) ?_
  refine xm_iast (M := mX3_takeLayer) (pc := 11) hM hF dX3_takeLayer_11 (by decide) (by first | decide | (simp only [mSz] <;> omega)) (fun h hM hF => ?_)
  refine x_aload_n (M := mX3_takeLayer) (pc := 12) dX3_takeLayer_12 rfl ?_
  refine x_get (M := mX3_takeLayer) (pc := 13) kcX3 11 rfl q2846 dX3_takeLayer_13 hM.1 rfl ?_
  refine x_iload_n (M := mX3_takeLayer) (pc := 16) dX3_takeLayer_16 rfl ?_
  refine x_joinV 38 (if tn = 0 then B 15 fr else 1 - B 15 fr) (fun J => ?_) ?_
  · refine x_iload_n (M := mX3_takeLayer) (pc := 17) dX3_takeLayer_17 rfl ?_
    first | with_reducible refine x_ifB_ne (M := mX3_takeLayer) (pc := 18) 30 dX3_takeLayer_18 (by decide) (fun c18 => ?_) (fun c18 => ?_) | with_reducible refine x_if_neN (M := mX3_takeLayer) (pc := 18) 30 dX3_takeLayer_18 (by decide) (by omega) (fun c18 => ?_) (fun c18 => ?_) | refine x_if_ne (M := mX3_takeLayer) (pc := 18) 30 dX3_takeLayer_18 (by decide) (fun c18 => ?_) (fun c18 => ?_)
    · refine x_iconst (M := mX3_takeLayer) (pc := 30) (v := nI 1) dX3_takeLayer_30 (by decide) ?_
      refine x_aload_n (M := mX3_takeLayer) (pc := 31) dX3_takeLayer_31 rfl ?_
      refine x_get (M := mX3_takeLayer) (pc := 32) kcX3 15 rfl q2850 dX3_takeLayer_32 hM.1 rfl ?_
      refine x_iload_n (M := mX3_takeLayer) (pc := 35) dX3_takeLayer_35 rfl ?_
      refine xm_iald (M := mX3_takeLayer) (pc := 36) hM dX3_takeLayer_36 (by decide) (by first | decide | (simp only [mSz] <;> omega)) ?_
      first | with_reducible refine x_isubN (M := mX3_takeLayer) (pc := 37) dX3_takeLayer_37 (by omega) ?_ | refine x_isub (M := mX3_takeLayer) (pc := 37) dX3_takeLayer_37 ?_
      exact J _ (by simp_all [va_up, show nI 1 = 1 from rfl])
    · refine x_aload_n (M := mX3_takeLayer) (pc := 21) dX3_takeLayer_21 rfl ?_
      refine x_get (M := mX3_takeLayer) (pc := 22) kcX3 15 rfl q2850 dX3_takeLayer_22 hM.1 rfl ?_
      refine x_iload_n (M := mX3_takeLayer) (pc := 25) dX3_takeLayer_25 rfl ?_
      refine xm_iald (M := mX3_takeLayer) (pc := 26) hM dX3_takeLayer_26 (by decide) (by first | decide | (simp only [mSz] <;> omega)) ?_
      refine x_goto (M := mX3_takeLayer) (pc := 27) 38 dX3_takeLayer_27 (by decide) ?_
      exact J _ (by simp_all [va_up, show nI 1 = 1 from rfl])
  refine xm_iast (M := mX3_takeLayer) (pc := 38) hM hF dX3_takeLayer_38 (by decide) (by first | decide | (simp only [mSz] <;> omega)) (fun h hM hF => ?_)
  refine x_aload_n (M := mX3_takeLayer) (pc := 39) dX3_takeLayer_39 rfl ?_
  refine x_get (M := mX3_takeLayer) (pc := 40) kcX3 12 rfl q2847 dX3_takeLayer_40 hM.1 rfl ?_
  refine x_iload_n (M := mX3_takeLayer) (pc := 43) dX3_takeLayer_43 rfl ?_
  refine x_joinV 66 (if tn = 1 then 1 - B 16 fr else B 16 fr) (fun J => ?_) ?_
  · refine x_iload_n (M := mX3_takeLayer) (pc := 44) dX3_takeLayer_44 rfl ?_
    refine x_iconst (M := mX3_takeLayer) (pc := 45) (v := nI 1) dX3_takeLayer_45 (by decide) ?_
    first | with_reducible refine x_icmp_neN (M := mX3_takeLayer) (pc := 46) 60 dX3_takeLayer_46 (by decide) (by omega) (by omega) (fun c46 => ?_) (fun c46 => ?_) | refine x_icmp_ne (M := mX3_takeLayer) (pc := 46) 60 dX3_takeLayer_46 (by decide) (fun c46 => ?_) (fun c46 => ?_)
    · refine x_aload_n (M := mX3_takeLayer) (pc := 60) dX3_takeLayer_60 rfl ?_
      refine x_get (M := mX3_takeLayer) (pc := 61) kcX3 16 rfl q2851 dX3_takeLayer_61 hM.1 rfl ?_
      refine x_iload_n (M := mX3_takeLayer) (pc := 64) dX3_takeLayer_64 rfl ?_
      refine xm_iald (M := mX3_takeLayer) (pc := 65) hM dX3_takeLayer_65 (by decide) (by first | decide | (simp only [mSz] <;> omega)) ?_
      exact J _ (by simp_all [va_up, show nI 1 = 1 from rfl])
    · refine x_iconst (M := mX3_takeLayer) (pc := 49) (v := nI 1) dX3_takeLayer_49 (by decide) ?_
      refine x_aload_n (M := mX3_takeLayer) (pc := 50) dX3_takeLayer_50 rfl ?_
      refine x_get (M := mX3_takeLayer) (pc := 51) kcX3 16 rfl q2851 dX3_takeLayer_51 hM.1 rfl ?_
      refine x_iload_n (M := mX3_takeLayer) (pc := 54) dX3_takeLayer_54 rfl ?_
      refine xm_iald (M := mX3_takeLayer) (pc := 55) hM dX3_takeLayer_55 (by decide) (by first | decide | (simp only [mSz] <;> omega)) ?_
      first | with_reducible refine x_isubN (M := mX3_takeLayer) (pc := 56) dX3_takeLayer_56 (by omega) ?_ | refine x_isub (M := mX3_takeLayer) (pc := 56) dX3_takeLayer_56 ?_
      refine x_goto (M := mX3_takeLayer) (pc := 57) 66 dX3_takeLayer_57 (by decide) ?_
      exact J _ (by simp_all [va_up, show nI 1 = 1 from rfl])
  refine xm_iast (M := mX3_takeLayer) (pc := 66) hM hF dX3_takeLayer_66 (by decide) (by first | decide | (simp only [mSz] <;> omega)) (fun h hM hF => ?_)
  refine x_aload_n (M := mX3_takeLayer) (pc := 67) dX3_takeLayer_67 rfl ?_
  refine x_get (M := mX3_takeLayer) (pc := 68) kcX3 13 rfl q2848 dX3_takeLayer_68 hM.1 rfl ?_
  refine x_iload_n (M := mX3_takeLayer) (pc := 71) dX3_takeLayer_71 rfl ?_
  refine x_joinV 94 (if tn = 2 then 1 - B 17 fr else B 17 fr) (fun J => ?_) ?_
  · refine x_iload_n (M := mX3_takeLayer) (pc := 72) dX3_takeLayer_72 rfl ?_
    refine x_iconst (M := mX3_takeLayer) (pc := 73) (v := nI 2) dX3_takeLayer_73 (by decide) ?_
    first | with_reducible refine x_icmp_neN (M := mX3_takeLayer) (pc := 74) 88 dX3_takeLayer_74 (by decide) (by omega) (by omega) (fun c74 => ?_) (fun c74 => ?_) | refine x_icmp_ne (M := mX3_takeLayer) (pc := 74) 88 dX3_takeLayer_74 (by decide) (fun c74 => ?_) (fun c74 => ?_)
    · refine x_aload_n (M := mX3_takeLayer) (pc := 88) dX3_takeLayer_88 rfl ?_
      refine x_get (M := mX3_takeLayer) (pc := 89) kcX3 17 rfl q2852 dX3_takeLayer_89 hM.1 rfl ?_
      refine x_iload_n (M := mX3_takeLayer) (pc := 92) dX3_takeLayer_92 rfl ?_
      refine xm_iald (M := mX3_takeLayer) (pc := 93) hM dX3_takeLayer_93 (by decide) (by first | decide | (simp only [mSz] <;> omega)) ?_
      exact J _ (by simp_all [va_up, show nI 1 = 1 from rfl])
    · refine x_iconst (M := mX3_takeLayer) (pc := 77) (v := nI 1) dX3_takeLayer_77 (by decide) ?_
      refine x_aload_n (M := mX3_takeLayer) (pc := 78) dX3_takeLayer_78 rfl ?_
      refine x_get (M := mX3_takeLayer) (pc := 79) kcX3 17 rfl q2852 dX3_takeLayer_79 hM.1 rfl ?_
      refine x_iload_n (M := mX3_takeLayer) (pc := 82) dX3_takeLayer_82 rfl ?_
      refine xm_iald (M := mX3_takeLayer) (pc := 83) hM dX3_takeLayer_83 (by decide) (by first | decide | (simp only [mSz] <;> omega)) ?_
      first | with_reducible refine x_isubN (M := mX3_takeLayer) (pc := 84) dX3_takeLayer_84 (by omega) ?_ | refine x_isub (M := mX3_takeLayer) (pc := 84) dX3_takeLayer_84 ?_
      refine x_goto (M := mX3_takeLayer) (pc := 85) 94 dX3_takeLayer_85 (by decide) ?_
      exact J _ (by simp_all [va_up, show nI 1 = 1 from rfl])
  refine xm_iast (M := mX3_takeLayer) (pc := 94) hM hF dX3_takeLayer_94 (by decide) (by first | decide | (simp only [mSz] <;> omega)) (fun h hM hF => ?_)
  refine x_vret (M := mX3_takeLayer) (pc := 95) dX3_takeLayer_95 rfl (Nat.le_refl 0) (Nat.le_refl 0) ⟨_, _, _, _, rfl, ?_, hM, hF⟩
  refine ⟨rfl, rfl, ?_, rfl⟩
  funext j t
  unfold p_take va_up upd
  by_cases e : t = to
  · subst e
    by_cases h10 : j = 10
    · subst h10; simp
    · by_cases h11 : j = 11
      · subst h11; simp
      · by_cases h12 : j = 12
        · subst h12; simp
        · by_cases h13 : j = 13
          · subst h13; simp
          · simp [h10, h11, h12, h13]
  · by_cases h10 : j = 10
    · subst h10; simp [e]
    · by_cases h11 : j = 11
      · subst h11; simp [e]
      · by_cases h12 : j = 12
        · subst h12; simp [e]
        · by_cases h13 : j = 13
          · subst h13; simp [e]
          · simp [e, h10, h11, h12, h13]
theorem m_mayFold (d f hi wi : Nat) (hf : f < 2 ^ 31) (hb : hi < 100 ∧ wi < 100) (h7 : I 7 = nI hi) (h8 : I 8 = nI wi) : MC g l mX3_mayFold d [.int (nI f)] m A I B wd (fun v I' B' wd' => v = some (.int (bI (if f < 3 then decide (1 < wi) else decide (1 < hi)))) ∧ I' = I ∧ B' = B ∧ wd' = wd) := by
  intro h hM
  have hF : MF m A h h := MF.rf
  refine Ct.of [some (.ref m), some (.int (nI f))] (by decide +kernel) rfl (Nat.le_of_ble_eq_true rfl) rfl rfl ?_
  refine x_iload_n (M := mX3_mayFold) (pc := 0) dX3_mayFold_0 rfl ?_
  refine x_iconst (M := mX3_mayFold) (pc := 1) (v := nI 3) dX3_mayFold_1 (by decide) ?_
  first | with_reducible refine x_icmp_geN (M := mX3_mayFold) (pc := 2) 21 dX3_mayFold_2 (by decide) (by omega) (by omega) (fun c2 => ?_) (fun c2 => ?_) | refine x_icmp_ge (M := mX3_mayFold) (pc := 2) 21 dX3_mayFold_2 (by decide) (fun c2 => ?_) (fun c2 => ?_)
  · refine x_aload_n (M := mX3_mayFold) (pc := 21) dX3_mayFold_21 rfl ?_
    refine x_get (M := mX3_mayFold) (pc := 22) kcX3 7 rfl q2842 dX3_mayFold_22 hM.1 rfl ?_
    refine x_val (M := mX3_mayFold) (pc := 25) (h7) ?_
    refine x_iconst (M := mX3_mayFold) (pc := 25) (v := nI 1) dX3_mayFold_25 (by decide) ?_
    first | with_reducible refine x_icmp_leN (M := mX3_mayFold) (pc := 26) 33 dX3_mayFold_26 (by decide) (by omega) (by omega) (fun c26 => ?_) (fun c26 => ?_) | refine x_icmp_le (M := mX3_mayFold) (pc := 26) 33 dX3_mayFold_26 (by decide) (fun c26 => ?_) (fun c26 => ?_)
    · refine x_iconst (M := mX3_mayFold) (pc := 33) (v := nI 0) dX3_mayFold_33 (by decide) ?_
      refine x_zret (M := mX3_mayFold) (pc := 34) dX3_mayFold_34 rfl (by first | with_reducible exact xz0 | with_reducible exact xz1 | with_reducible exact bI_01 _ | with_reducible assumption | assumption) (Nat.le_refl 0) (Nat.le_refl 0) ⟨_, _, _, _, rfl, ?_, hM, hF⟩
      exact ⟨by first | exact vB1 (by simp [*]; try omega) | exact vB0 (by simp [*]; try omega), rfl, rfl, rfl⟩
    · refine x_iconst (M := mX3_mayFold) (pc := 29) (v := nI 1) dX3_mayFold_29 (by decide) ?_
      refine x_goto (M := mX3_mayFold) (pc := 30) 34 dX3_mayFold_30 (by decide) ?_
      refine x_zret (M := mX3_mayFold) (pc := 34) dX3_mayFold_34 rfl (by first | with_reducible exact xz0 | with_reducible exact xz1 | with_reducible exact bI_01 _ | with_reducible assumption | assumption) (Nat.le_refl 0) (Nat.le_refl 0) ⟨_, _, _, _, rfl, ?_, hM, hF⟩
      exact ⟨by first | exact vB1 (by simp [*]; try omega) | exact vB0 (by simp [*]; try omega), rfl, rfl, rfl⟩
  · refine x_aload_n (M := mX3_mayFold) (pc := 5) dX3_mayFold_5 rfl ?_
    refine x_get (M := mX3_mayFold) (pc := 6) kcX3 8 rfl q2843 dX3_mayFold_6 hM.1 rfl ?_
    refine x_val (M := mX3_mayFold) (pc := 9) (h8) ?_
    refine x_iconst (M := mX3_mayFold) (pc := 9) (v := nI 1) dX3_mayFold_9 (by decide) ?_
    first | with_reducible refine x_icmp_leN (M := mX3_mayFold) (pc := 10) 17 dX3_mayFold_10 (by decide) (by omega) (by omega) (fun c10 => ?_) (fun c10 => ?_) | refine x_icmp_le (M := mX3_mayFold) (pc := 10) 17 dX3_mayFold_10 (by decide) (fun c10 => ?_) (fun c10 => ?_)
    · refine x_iconst (M := mX3_mayFold) (pc := 17) (v := nI 0) dX3_mayFold_17 (by decide) ?_
      refine x_goto (M := mX3_mayFold) (pc := 18) 34 dX3_mayFold_18 (by decide) ?_
      refine x_zret (M := mX3_mayFold) (pc := 34) dX3_mayFold_34 rfl (by first | with_reducible exact xz0 | with_reducible exact xz1 | with_reducible exact bI_01 _ | with_reducible assumption | assumption) (Nat.le_refl 0) (Nat.le_refl 0) ⟨_, _, _, _, rfl, ?_, hM, hF⟩
      exact ⟨by first | exact vB1 (by simp [*]; try omega) | exact vB0 (by simp [*]; try omega), rfl, rfl, rfl⟩
    · refine x_iconst (M := mX3_mayFold) (pc := 13) (v := nI 1) dX3_mayFold_13 (by decide) ?_
      refine x_goto (M := mX3_mayFold) (pc := 14) 34 dX3_mayFold_14 (by decide) ?_
      refine x_zret (M := mX3_mayFold) (pc := 34) dX3_mayFold_34 rfl (by first | with_reducible exact xz0 | with_reducible exact xz1 | with_reducible exact bI_01 _ | with_reducible assumption | assumption) (Nat.le_refl 0) (Nat.le_refl 0) ⟨_, _, _, _, rfl, ?_, hM, hF⟩
      exact ⟨by first | exact vB1 (by simp [*]; try omega) | exact vB0 (by simp [*]; try omega), rfl, rfl, rfl⟩
def OPENI (k : Nat) (B0 B : Nat → Nat → Int32) : Prop := (∀ j, j < 10 ∨ 13 < j → B j = B0 j) ∧ ∀ t, t < k → B 10 t = nI t ∧ B 11 t = 0 ∧ B 12 t = 0 ∧ B 13 t = 0
theorem m_layOpen_l (d : Nat) (Q : xO → xH → Prop) (h0 : xH) (B0 : Nat → Nat → Int32) (hE : ∀ h B, MR g h m A I B wd → MF m A h0 h → OPENI 16 B0 B → Q (.inl none) h) : ∀ n k, k + n = 16 → ∀ h B, MR g h m A I B wd → MF m A h0 h → OPENI k B0 B → X g l mX3_layOpen d 0 0 Q 27 [some (.ref m), some (.int (nI k))] [] h 0 0 := by
  intro n
  induction n with
  | zero =>
    intro k hk h B hM hF hO
    have : k = 16 := by omega
    subst this
    refine x_iload_n (M := mX3_layOpen) (pc := 27) dX3_layOpen_27 rfl ?_
    refine x_bipush (M := mX3_layOpen) (pc := 28) (v := nI 16) dX3_layOpen_28 (by decide) ?_
    first | with_reducible refine x_icmp_geN (M := mX3_layOpen) (pc := 30) 67 dX3_layOpen_30 (by decide) (by omega) (by omega) (fun c1 => ?_) (fun c1 => ?_) | refine x_icmp_ge (M := mX3_layOpen) (pc := 30) 67 dX3_layOpen_30 (by decide) (fun c1 => ?_) (fun c1 => ?_)
    · exact x_vret (pc := 67) dX3_layOpen_67 rfl (Nat.le_refl 0) (Nat.le_refl 0) (hE h B hM hF hO)
    · omega
  | succ n ih =>
    intro k hk h B hM hF hO
    refine x_iload_n (M := mX3_layOpen) (pc := 27) dX3_layOpen_27 rfl ?_
    refine x_bipush (M := mX3_layOpen) (pc := 28) (v := nI 16) dX3_layOpen_28 (by decide) ?_
    first | with_reducible refine x_icmp_geN (M := mX3_layOpen) (pc := 30) 67 dX3_layOpen_30 (by decide) (by omega) (by omega) (fun c1 => ?_) (fun c1 => ?_) | refine x_icmp_ge (M := mX3_layOpen) (pc := 30) 67 dX3_layOpen_30 (by decide) (fun c1 => ?_) (fun c1 => ?_)
    · omega
    · refine x_aload_n (M := mX3_layOpen) (pc := 33) dX3_layOpen_33 rfl ?_
      refine x_get (M := mX3_layOpen) (pc := 34) kcX3 10 rfl q2845 dX3_layOpen_34 hM.1 rfl ?_
      refine x_iload_n (M := mX3_layOpen) (pc := 37) dX3_layOpen_37 rfl ?_
      refine x_iload_n (M := mX3_layOpen) (pc := 38) dX3_layOpen_38 rfl ?_
      refine xm_iast (M := mX3_layOpen) (pc := 39) hM hF dX3_layOpen_39 (by decide) (by first | decide | (simp only [mSz] <;> omega)) (fun h hM hF => ?_)
      refine x_aload_n (M := mX3_layOpen) (pc := 40) dX3_layOpen_40 rfl ?_
      refine x_get (M := mX3_layOpen) (pc := 41) kcX3 11 rfl q2846 dX3_layOpen_41 hM.1 rfl ?_
      refine x_iload_n (M := mX3_layOpen) (pc := 44) dX3_layOpen_44 rfl ?_
      refine x_iconst (M := mX3_layOpen) (pc := 45) (v := nI 0) dX3_layOpen_45 (by decide) ?_
      refine xm_iast (M := mX3_layOpen) (pc := 46) hM hF dX3_layOpen_46 (by decide) (by first | decide | (simp only [mSz] <;> omega)) (fun h hM hF => ?_)
      refine x_aload_n (M := mX3_layOpen) (pc := 47) dX3_layOpen_47 rfl ?_
      refine x_get (M := mX3_layOpen) (pc := 48) kcX3 12 rfl q2847 dX3_layOpen_48 hM.1 rfl ?_
      refine x_iload_n (M := mX3_layOpen) (pc := 51) dX3_layOpen_51 rfl ?_
      refine x_iconst (M := mX3_layOpen) (pc := 52) (v := nI 0) dX3_layOpen_52 (by decide) ?_
      refine xm_iast (M := mX3_layOpen) (pc := 53) hM hF dX3_layOpen_53 (by decide) (by first | decide | (simp only [mSz] <;> omega)) (fun h hM hF => ?_)
      refine x_aload_n (M := mX3_layOpen) (pc := 54) dX3_layOpen_54 rfl ?_
      refine x_get (M := mX3_layOpen) (pc := 55) kcX3 13 rfl q2848 dX3_layOpen_55 hM.1 rfl ?_
      refine x_iload_n (M := mX3_layOpen) (pc := 58) dX3_layOpen_58 rfl ?_
      refine x_iconst (M := mX3_layOpen) (pc := 59) (v := nI 0) dX3_layOpen_59 (by decide) ?_
      refine xm_iast (M := mX3_layOpen) (pc := 60) hM hF dX3_layOpen_60 (by decide) (by first | decide | (simp only [mSz] <;> omega)) (fun h hM hF => ?_)
      first | refine x_iinc1N (M := mX3_layOpen) (pc := 61) (c := 1) dX3_layOpen_61 oI1 ?_ | refine x_iinc1 (M := mX3_layOpen) (pc := 61) (c := 1) dX3_layOpen_61 (by decide) ?_
      refine x_goto (M := mX3_layOpen) (pc := 64) 27 dX3_layOpen_64 (by decide) ?_
      refine ih (k + 1) (by omega) h _ hM hF ⟨fun j hj => ?_, fun t ht => ?_⟩
      · rw [va_up_n _ _ (by omega), va_up_n _ _ (by omega), va_up_n _ _ (by omega), va_up_n _ _ (by omega)]; exact hO.1 j hj
      · simp only [va_up, upd, show nI 0 = 0 from rfl]
        by_cases e : t = k
        · subst e; simp [upd]
        · simp [upd, e]; exact hO.2 t (by omega)
theorem m_layOpen (d hi wi : Nat) (hb : hi * wi ≤ 16) (h0 : B 0 0 = nI hi) (h1 : B 0 1 = nI wi) : MC g l mX3_layOpen d [] m A I B wd (fun v I' B' wd' => v = none ∧ LF I B wd I' B' wd' ∧ LAY I' B' hi wi 1 (fun t => (t, false, false))) := by
  intro h hM
  have hF : MF m A h h := MF.rf
  refine Ct.of [some (.ref m), none] (by decide +kernel) rfl (Nat.le_of_ble_eq_true rfl) rfl rfl ?_
  refine x_aload_n (M := mX3_layOpen) (pc := 0) dX3_layOpen_0 rfl ?_
  refine x_aload_n (M := mX3_layOpen) (pc := 1) dX3_layOpen_1 rfl ?_
  refine x_get (M := mX3_layOpen) (pc := 2) kcX3 0 rfl q2835 dX3_layOpen_2 hM.1 rfl ?_
  refine x_iconst (M := mX3_layOpen) (pc := 5) (v := nI 0) dX3_layOpen_5 (by decide) ?_
  refine xm_iald (M := mX3_layOpen) (pc := 6) hM dX3_layOpen_6 (by decide) (by first | decide | (simp only [mSz] <;> omega)) ?_
  refine xm_put7 (M := mX3_layOpen) (pc := 7) hM hF q2842 dX3_layOpen_7 (fun h hM hF => ?_)
  refine x_aload_n (M := mX3_layOpen) (pc := 10) dX3_layOpen_10 rfl ?_
  refine x_aload_n (M := mX3_layOpen) (pc := 11) dX3_layOpen_11 rfl ?_
  refine x_get (M := mX3_layOpen) (pc := 12) kcX3 0 rfl q2835 dX3_layOpen_12 hM.1 rfl ?_
  refine x_iconst (M := mX3_layOpen) (pc := 15) (v := nI 1) dX3_layOpen_15 (by decide) ?_
  refine xm_iald (M := mX3_layOpen) (pc := 16) hM dX3_layOpen_16 (by decide) (by first | decide | (simp only [mSz] <;> omega)) ?_
  refine xm_put8 (M := mX3_layOpen) (pc := 17) hM hF q2843 dX3_layOpen_17 (fun h hM hF => ?_)
  refine x_aload_n (M := mX3_layOpen) (pc := 20) dX3_layOpen_20 rfl ?_
  refine x_iconst (M := mX3_layOpen) (pc := 21) (v := nI 1) dX3_layOpen_21 (by decide) ?_
  refine xm_put9 (M := mX3_layOpen) (pc := 22) hM hF q2844 dX3_layOpen_22 (fun h hM hF => ?_)
  refine x_iconst (M := mX3_layOpen) (pc := 25) (v := nI 0) dX3_layOpen_25 (by decide) ?_
  refine x_istore1 (M := mX3_layOpen) (pc := 26) dX3_layOpen_26 ?_
  refine m_layOpen_l d _ _ B (fun h' B' hM hF hO => ⟨_, _, _, _, rfl, ⟨rfl, ⟨?_, fun j hj => hO.1 j (by omega), rfl⟩, ?_⟩, hM, hF⟩) 16 0 rfl h B hM hF ⟨fun _ _ => rfl, fun t ht => absurd ht (by omega)⟩
  · intro j a b c; simp [upd, a, b, c]
  · refine ⟨by simp [upd, h0], by simp [upd, h1], by simp [upd], fun t ht => ?_⟩
    exact hO.2 t (by omega)
end MODEL3

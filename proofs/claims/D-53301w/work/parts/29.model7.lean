section MODEL7
set_option maxRecDepth 100000
variable {g : xG} {l : Launch} {m : Nat} {A : Nat → Nat} {I : Nat → Int32} {B : Nat → Nat → Int32} {wd : Int64}
/-- the leaves of a booklet lie in the reference's arrays: n of them, of a sheet of wi columns -/
def BK (I : Nat → Int32) (B : Nat → Nat → Int32) (n wi : Nat) (ly : Nat → Lay) : Prop := I 9 = nI n ∧ B 0 1 = nI wi ∧ (∀ t, t < n → LYA B ly t ∧ (ly t).1 < n) ∧ 1 ≤ n ∧ n ≤ 16 ∧ 1 ≤ wi ∧ wi ≤ 4
theorem bI_x (a b : Bool) : bI a ^^^ bI b = bI (a != b) := by cases a <;> cases b <;> decide
theorem m_sideOf (d n wi : Nat) (ly : Nat → Lay) (hB : BK I B n wi ly) (pg : Nat) (hp : pg < 2 * n) : MCr g l mX3_sideOf d [.int (nI pg)] m A I B wd (some (.int (nI (p_sd ly pg)))) := by
  intro h hM
  obtain ⟨-, -, hly, b1, b2, -, -⟩ := hB
  obtain ⟨⟨l1, l2, -⟩, l3⟩ := hly (pg / 2) (by omega)
  refine Ct.of [some (.ref m), some (.int (nI pg)), none] (by decide +kernel) rfl (Nat.le_of_ble_eq_true rfl) rfl rfl ?_
  refine x_iload_n (M := mX3_sideOf) (pc := 0) dX3_sideOf_0 rfl ?_
  refine x_iconst (M := mX3_sideOf) (pc := 1) (v := nI 2) dX3_sideOf_1 (by decide) ?_
  first | with_reducible refine x_idivN (M := mX3_sideOf) (pc := 2) dX3_sideOf_2 (by omega) (by omega) (by omega) ?_ | refine x_idiv (M := mX3_sideOf) (pc := 2) dX3_sideOf_2 (by first | decide | assumption) ?_
  refine x_istore2 (M := mX3_sideOf) (pc := 3) dX3_sideOf_3 ?_
  refine x_iconst (M := mX3_sideOf) (pc := 4) (v := nI 2) dX3_sideOf_4 (by decide) ?_
  refine x_aload_n (M := mX3_sideOf) (pc := 5) dX3_sideOf_5 rfl ?_
  refine x_get (M := mX3_sideOf) (pc := 6) kcX3 10 rfl q2845 dX3_sideOf_6 hM.1 rfl ?_
  refine x_iload_n (M := mX3_sideOf) (pc := 9) dX3_sideOf_9 rfl ?_
  refine xm_ialdV (M := mX3_sideOf) (pc := 10) hM dX3_sideOf_10 (l1) (by decide) (by first | decide | (simp only [mSz] <;> omega)) ?_
  first | with_reducible refine x_imulN (M := mX3_sideOf) (pc := 11) dX3_sideOf_11 ?_ | refine x_imul (M := mX3_sideOf) (pc := 11) dX3_sideOf_11 ?_
  refine x_joinV 35 (nI (p_side (ly (pg / 2)) != decide (pg % 2 = 1)).toNat) (fun J => ?_) ?_
  · refine x_iload_n (M := mX3_sideOf) (pc := 12) dX3_sideOf_12 rfl ?_
    refine x_iconst (M := mX3_sideOf) (pc := 13) (v := nI 2) dX3_sideOf_13 (by decide) ?_
    first | with_reducible refine x_iremN (M := mX3_sideOf) (pc := 14) dX3_sideOf_14 (by omega) (by omega) (by omega) ?_ | refine x_irem (M := mX3_sideOf) (pc := 14) dX3_sideOf_14 (by first | decide | assumption) ?_
    first | with_reducible refine x_ifB_ne (M := mX3_sideOf) (pc := 15) 27 dX3_sideOf_15 (by decide) (fun c15 => ?_) (fun c15 => ?_) | with_reducible refine x_if_neN (M := mX3_sideOf) (pc := 15) 27 dX3_sideOf_15 (by decide) (by omega) (fun c15 => ?_) (fun c15 => ?_) | refine x_if_ne (M := mX3_sideOf) (pc := 15) 27 dX3_sideOf_15 (by decide) (fun c15 => ?_) (fun c15 => ?_)
    · refine x_iconst (M := mX3_sideOf) (pc := 27) (v := nI 1) dX3_sideOf_27 (by decide) ?_
      refine x_aload_n (M := mX3_sideOf) (pc := 28) dX3_sideOf_28 rfl ?_
      refine x_get (M := mX3_sideOf) (pc := 29) kcX3 11 rfl q2846 dX3_sideOf_29 hM.1 rfl ?_
      refine x_iload_n (M := mX3_sideOf) (pc := 32) dX3_sideOf_32 rfl ?_
      refine xm_ialdV (M := mX3_sideOf) (pc := 33) hM dX3_sideOf_33 (l2) (by decide) (by first | decide | (simp only [mSz] <;> omega)) ?_
      first | with_reducible refine x_isubN (M := mX3_sideOf) (pc := 34) dX3_sideOf_34 (by omega) ?_ | refine x_isub (M := mX3_sideOf) (pc := 34) dX3_sideOf_34 ?_
      exact J _ (by first | (rw [show decide (pg % 2 = 1) = false by simp; omega, bI_nI]; simp; done) | (rw [show decide (pg % 2 = 1) = true by simp; omega, show nI 1 = 1 from rfl, bI_not, bI_nI]; simp; done))
    · refine x_aload_n (M := mX3_sideOf) (pc := 18) dX3_sideOf_18 rfl ?_
      refine x_get (M := mX3_sideOf) (pc := 19) kcX3 11 rfl q2846 dX3_sideOf_19 hM.1 rfl ?_
      refine x_iload_n (M := mX3_sideOf) (pc := 22) dX3_sideOf_22 rfl ?_
      refine xm_ialdV (M := mX3_sideOf) (pc := 23) hM dX3_sideOf_23 (l2) (by decide) (by first | decide | (simp only [mSz] <;> omega)) ?_
      refine x_goto (M := mX3_sideOf) (pc := 24) 35 dX3_sideOf_24 (by decide) ?_
      exact J _ (by first | (rw [show decide (pg % 2 = 1) = false by simp; omega, bI_nI]; simp; done) | (rw [show decide (pg % 2 = 1) = true by simp; omega, show nI 1 = 1 from rfl, bI_not, bI_nI]; simp; done))
  first | with_reducible refine x_iaddN (M := mX3_sideOf) (pc := 35) dX3_sideOf_35 ?_ | refine x_iadd (M := mX3_sideOf) (pc := 35) dX3_sideOf_35 ?_
  refine x_iret (M := mX3_sideOf) (pc := 36) dX3_sideOf_36 rfl (Nat.le_refl 0) (Nat.le_refl 0) ⟨congrArg Sum.inl ?_, rfl⟩
  exact rfl
theorem m_turnOf (d n wi : Nat) (ly : Nat → Lay) (hB : BK I B n wi ly) (sp : Nat) (hs : B 0 7 = nI sp) (hs2 : sp < 2) (pg : Nat) (hp : pg < 2 * n) : MCr g l mX3_turnOf d [.int (nI pg)] m A I B wd (some (.int (bI (p_tn ly sp pg)))) := by
  intro h hM
  obtain ⟨-, -, hly, b1, b2, -, -⟩ := hB
  obtain ⟨⟨-, -, -, l4⟩, l3⟩ := hly (pg / 2) (by omega)
  refine Ct.of [some (.ref m), some (.int (nI pg))] (by decide +kernel) rfl (Nat.le_of_ble_eq_true rfl) rfl rfl ?_
  refine x_aload_n (M := mX3_turnOf) (pc := 0) dX3_turnOf_0 rfl ?_
  refine x_get (M := mX3_turnOf) (pc := 1) kcX3 13 rfl q2848 dX3_turnOf_1 hM.1 rfl ?_
  refine x_iload_n (M := mX3_turnOf) (pc := 4) dX3_turnOf_4 rfl ?_
  refine x_iconst (M := mX3_turnOf) (pc := 5) (v := nI 2) dX3_turnOf_5 (by decide) ?_
  first | with_reducible refine x_idivN (M := mX3_turnOf) (pc := 6) dX3_turnOf_6 (by omega) (by omega) (by omega) ?_ | refine x_idiv (M := mX3_turnOf) (pc := 6) dX3_turnOf_6 (by first | decide | assumption) ?_
  refine xm_ialdV (M := mX3_turnOf) (pc := 7) hM dX3_turnOf_7 (l4) (by decide) (by first | decide | (simp only [mSz] <;> omega)) ?_
  refine x_joinB 31 (decide (sp = 1) && decide (pg % 2 = 1)) (fun J => ?_) ?_
  · refine x_aload_n (M := mX3_turnOf) (pc := 8) dX3_turnOf_8 rfl ?_
    refine x_get (M := mX3_turnOf) (pc := 9) kcX3 0 rfl q2835 dX3_turnOf_9 hM.1 rfl ?_
    refine x_bipush (M := mX3_turnOf) (pc := 12) (v := nI 7) dX3_turnOf_12 (by decide) ?_
    refine xm_ialdV (M := mX3_turnOf) (pc := 14) hM dX3_turnOf_14 (hs) (by decide) (by first | decide | (simp only [mSz] <;> omega)) ?_
    refine x_iconst (M := mX3_turnOf) (pc := 15) (v := nI 1) dX3_turnOf_15 (by decide) ?_
    first | with_reducible refine x_icmp_neN (M := mX3_turnOf) (pc := 16) 30 dX3_turnOf_16 (by decide) (by omega) (by omega) (fun c16 => ?_) (fun c16 => ?_) | refine x_icmp_ne (M := mX3_turnOf) (pc := 16) 30 dX3_turnOf_16 (by decide) (fun c16 => ?_) (fun c16 => ?_)
    · refine x_iconst (M := mX3_turnOf) (pc := 30) (v := nI 0) dX3_turnOf_30 (by decide) ?_
      first | exact J true (by simp; omega) | exact J false (by simp; omega)
    · refine x_iload_n (M := mX3_turnOf) (pc := 19) dX3_turnOf_19 rfl ?_
      refine x_iconst (M := mX3_turnOf) (pc := 20) (v := nI 2) dX3_turnOf_20 (by decide) ?_
      first | with_reducible refine x_iremN (M := mX3_turnOf) (pc := 21) dX3_turnOf_21 (by omega) (by omega) (by omega) ?_ | refine x_irem (M := mX3_turnOf) (pc := 21) dX3_turnOf_21 (by first | decide | assumption) ?_
      refine x_iconst (M := mX3_turnOf) (pc := 22) (v := nI 1) dX3_turnOf_22 (by decide) ?_
      first | with_reducible refine x_icmp_neN (M := mX3_turnOf) (pc := 23) 30 dX3_turnOf_23 (by decide) (by omega) (by omega) (fun c23 => ?_) (fun c23 => ?_) | refine x_icmp_ne (M := mX3_turnOf) (pc := 23) 30 dX3_turnOf_23 (by decide) (fun c23 => ?_) (fun c23 => ?_)
      · refine x_iconst (M := mX3_turnOf) (pc := 30) (v := nI 0) dX3_turnOf_30 (by decide) ?_
        first | exact J true (by simp; omega) | exact J false (by simp; omega)
      · refine x_iconst (M := mX3_turnOf) (pc := 26) (v := nI 1) dX3_turnOf_26 (by decide) ?_
        refine x_goto (M := mX3_turnOf) (pc := 27) 31 dX3_turnOf_27 (by decide) ?_
        first | exact J true (by simp; omega) | exact J false (by simp; omega)
  refine x_ixor (M := mX3_turnOf) (pc := 31) dX3_turnOf_31 ?_
  refine x_iret (M := mX3_turnOf) (pc := 32) dX3_turnOf_32 rfl (Nat.le_refl 0) (Nat.le_refl 0) ⟨congrArg Sum.inl ?_, rfl⟩
  exact (by rw [bI_x]; rfl)
theorem m_isUpright (d n wi : Nat) (ly : Nat → Lay) (hB : BK I B n wi ly) (sp : Nat) (hs : B 0 7 = nI sp) (hs2 : sp < 2) (tu : Nat → Bool) (ht : ∀ k, k < 32 → B 0 (122 + k) = bI (tu k)) (pg : Nat) (hp : pg < 2 * n) (hd : 1 ≤ d) : MCr g l mX3_isUpright d [.int (nI pg)] m A I B wd (some (.int (bI (p_tn ly sp pg == tu (p_sd ly pg))))) := by
  intro h hM
  have hl3 := (hB.2.2.1 (pg / 2) (by omega)).2
  have b2 := hB.2.2.2.2.1
  have hsd : p_sd ly pg < 32 := by unfold p_sd; have := Bool.toNat_le (p_side (ly (pg / 2)) != decide (pg % 2 = 1)); omega
  refine Ct.of [some (.ref m), some (.int (nI pg))] (by decide +kernel) rfl (Nat.le_of_ble_eq_true rfl) rfl rfl ?_
  refine x_aload_n (M := mX3_isUpright) (pc := 0) dX3_isUpright_0 rfl ?_
  refine x_iload_n (M := mX3_isUpright) (pc := 1) dX3_isUpright_1 rfl ?_
  refine x_V1 (M := mX3_isUpright) (pc := 2) (M' := mX3_turnOf) q3014 kVX3_turnOf dX3_isUpright_2 (m_turnOf (d - 1) n wi ly hB sp hs hs2 pg hp h hM) (hM.is) (fun v_ h hq_ => ?_)
  obtain ⟨hv_, rfl⟩ := hq_; cases hv_
  refine x_aload_n (M := mX3_isUpright) (pc := 5) dX3_isUpright_5 rfl ?_
  refine x_get (M := mX3_isUpright) (pc := 6) kcX3 0 rfl q2835 dX3_isUpright_6 hM.1 rfl ?_
  refine x_bipush (M := mX3_isUpright) (pc := 9) (v := nI 122) dX3_isUpright_9 (by decide) ?_
  refine x_aload_n (M := mX3_isUpright) (pc := 11) dX3_isUpright_11 rfl ?_
  refine x_iload_n (M := mX3_isUpright) (pc := 12) dX3_isUpright_12 rfl ?_
  refine x_V1 (M := mX3_isUpright) (pc := 13) (M' := mX3_sideOf) q3010 kVX3_sideOf dX3_isUpright_13 (m_sideOf (d - 1) n wi ly hB pg hp h hM) (hM.is) (fun v_ h hq_ => ?_)
  obtain ⟨hv_, rfl⟩ := hq_; cases hv_
  first | with_reducible refine x_iaddN (M := mX3_isUpright) (pc := 16) dX3_isUpright_16 ?_ | refine x_iadd (M := mX3_isUpright) (pc := 16) dX3_isUpright_16 ?_
  refine xm_ialdV (M := mX3_isUpright) (pc := 17) hM dX3_isUpright_17 (ht _ hsd) (by decide) (by first | decide | (simp only [mSz] <;> omega)) ?_
  refine x_icmp_ne (M := mX3_isUpright) (pc := 18) 25 dX3_isUpright_18 (by decide) (fun r_c => ?_) (fun r_c => ?_)
  · refine x_iconst (M := mX3_isUpright) (pc := 25) (v := nI 0) dX3_isUpright_25 (by decide) ?_
    refine x_zret (M := mX3_isUpright) (pc := 26) dX3_isUpright_26 rfl (by first | with_reducible exact xz0 | with_reducible exact xz1 | with_reducible exact bI_01 _ | with_reducible assumption | assumption) (Nat.le_refl 0) (Nat.le_refl 0) ⟨congrArg Sum.inl ?_, rfl⟩
    exact (by first | exact vB1 (by rw [bI_inj] at r_c; simp [r_c]) | exact vB0 (by rw [bI_inj] at r_c; simp [r_c]))
  · refine x_iconst (M := mX3_isUpright) (pc := 21) (v := nI 1) dX3_isUpright_21 (by decide) ?_
    refine x_goto (M := mX3_isUpright) (pc := 22) 26 dX3_isUpright_22 (by decide) ?_
    refine x_zret (M := mX3_isUpright) (pc := 26) dX3_isUpright_26 rfl (by first | with_reducible exact xz0 | with_reducible exact xz1 | with_reducible exact bI_01 _ | with_reducible assumption | assumption) (Nat.le_refl 0) (Nat.le_refl 0) ⟨congrArg Sum.inl ?_, rfl⟩
    exact (by first | exact vB1 (by rw [bI_inj] at r_c; simp [r_c]) | exact vB0 (by rw [bI_inj] at r_c; simp [r_c]))
theorem m_printedOn (d n wi : Nat) (ly : Nat → Lay) (hB : BK I B n wi ly) (pg : Nat) (hp : pg < 2 * n) (hd : 1 ≤ d) : MCr g l mX3_printedOn d [.int (nI pg)] m A I B wd (some (.int (B 0 (90 + p_sd ly pg)))) := by
  intro h hM
  have hl3 := (hB.2.2.1 (pg / 2) (by omega)).2
  have b2 := hB.2.2.2.2.1
  have hsd : p_sd ly pg < 32 := by unfold p_sd; have := Bool.toNat_le (p_side (ly (pg / 2)) != decide (pg % 2 = 1)); omega
  refine Ct.of [some (.ref m), some (.int (nI pg))] (by decide +kernel) rfl (Nat.le_of_ble_eq_true rfl) rfl rfl ?_
  refine x_aload_n (M := mX3_printedOn) (pc := 0) dX3_printedOn_0 rfl ?_
  refine x_get (M := mX3_printedOn) (pc := 1) kcX3 0 rfl q2835 dX3_printedOn_1 hM.1 rfl ?_
  refine x_bipush (M := mX3_printedOn) (pc := 4) (v := nI 90) dX3_printedOn_4 (by decide) ?_
  refine x_aload_n (M := mX3_printedOn) (pc := 6) dX3_printedOn_6 rfl ?_
  refine x_iload_n (M := mX3_printedOn) (pc := 7) dX3_printedOn_7 rfl ?_
  refine x_V1 (M := mX3_printedOn) (pc := 8) (M' := mX3_sideOf) q3010 kVX3_sideOf dX3_printedOn_8 (m_sideOf (d - 1) n wi ly hB pg hp h hM) (hM.is) (fun v_ h hq_ => ?_)
  obtain ⟨hv_, rfl⟩ := hq_; cases hv_
  first | with_reducible refine x_iaddN (M := mX3_printedOn) (pc := 11) dX3_printedOn_11 ?_ | refine x_iadd (M := mX3_printedOn) (pc := 11) dX3_printedOn_11 ?_
  refine xm_iald (M := mX3_printedOn) (pc := 12) hM dX3_printedOn_12 (by decide) (by first | decide | (simp only [mSz] <;> omega)) ?_
  refine x_iret (M := mX3_printedOn) (pc := 13) dX3_printedOn_13 rfl (Nat.le_refl 0) (Nat.le_refl 0) ⟨congrArg Sum.inl ?_, rfl⟩
  exact rfl
theorem m_spineEdge (d sp : Nat) (hs : B 0 7 = nI sp) (hs2 : sp < 2) : MCr g l mX3_spineEdge d [] m A I B wd (some (.int (nI (p_se sp)))) := by
  intro h hM
  refine Ct.of [some (.ref m)] (by decide +kernel) rfl (Nat.le_of_ble_eq_true rfl) rfl rfl ?_
  refine x_aload_n (M := mX3_spineEdge) (pc := 0) dX3_spineEdge_0 rfl ?_
  refine x_get (M := mX3_spineEdge) (pc := 1) kcX3 0 rfl q2835 dX3_spineEdge_1 hM.1 rfl ?_
  refine x_bipush (M := mX3_spineEdge) (pc := 4) (v := nI 7) dX3_spineEdge_4 (by decide) ?_
  refine xm_ialdV (M := mX3_spineEdge) (pc := 6) hM dX3_spineEdge_6 (hs) (by decide) (by first | decide | (simp only [mSz] <;> omega)) ?_
  first | with_reducible refine x_ifB_ne (M := mX3_spineEdge) (pc := 7) 14 dX3_spineEdge_7 (by decide) (fun c7 => ?_) (fun c7 => ?_) | with_reducible refine x_if_neN (M := mX3_spineEdge) (pc := 7) 14 dX3_spineEdge_7 (by decide) (by omega) (fun c7 => ?_) (fun c7 => ?_) | refine x_if_ne (M := mX3_spineEdge) (pc := 7) 14 dX3_spineEdge_7 (by decide) (fun c7 => ?_) (fun c7 => ?_)
  · refine x_iconst (M := mX3_spineEdge) (pc := 14) (v := nI 2) dX3_spineEdge_14 (by decide) ?_
    refine x_iret (M := mX3_spineEdge) (pc := 15) dX3_spineEdge_15 rfl (Nat.le_refl 0) (Nat.le_refl 0) ⟨congrArg Sum.inl ?_, rfl⟩
    exact (by simp [p_se, c7])
  · refine x_iconst (M := mX3_spineEdge) (pc := 10) (v := nI 0) dX3_spineEdge_10 (by decide) ?_
    refine x_goto (M := mX3_spineEdge) (pc := 11) 15 dX3_spineEdge_11 (by decide) ?_
    refine x_iret (M := mX3_spineEdge) (pc := 15) dX3_spineEdge_15 rfl (Nat.le_refl 0) (Nat.le_refl 0) ⟨congrArg Sum.inl ?_, rfl⟩
    exact (by simp [p_se, c7])
theorem p_edge_1 {wi : Nat} {ly : Nat → Lay} {i j : Nat} (h1 : (ly (i + j - p_fst ly i j)).1 = (ly (p_fst ly i j)).1 + 1) (h2 : 0 < (ly (i + j - p_fst ly i j)).1 % wi) : p_edge wi ly i j = some (if (ly (p_fst ly i j)).2.1 then 0 else 1) := by
  unfold p_edge; rw [if_pos ⟨h1, h2⟩]
theorem p_edge_2 {wi : Nat} {ly : Nat → Lay} {i j : Nat} (h1 : ¬ ((ly (i + j - p_fst ly i j)).1 = (ly (p_fst ly i j)).1 + 1 ∧ 0 < (ly (i + j - p_fst ly i j)).1 % wi)) (h2 : (ly (i + j - p_fst ly i j)).1 = (ly (p_fst ly i j)).1 + wi) : p_edge wi ly i j = some (if (ly (p_fst ly i j)).2.2 then 2 else 3) := by
  unfold p_edge; rw [if_neg h1, if_pos h2]
theorem p_edge_3 {wi : Nat} {ly : Nat → Lay} {i j : Nat} (h1 : ¬ ((ly (i + j - p_fst ly i j)).1 = (ly (p_fst ly i j)).1 + 1 ∧ 0 < (ly (i + j - p_fst ly i j)).1 % wi)) (h2 : ¬ (ly (i + j - p_fst ly i j)).1 = (ly (p_fst ly i j)).1 + wi) : p_edge wi ly i j = none := by
  unfold p_edge; rw [if_neg h1, if_neg h2]
theorem m_edgeOf (d n wi : Nat) (ly : Nat → Lay) (hB : BK I B n wi ly) (i j : Nat) (hi : i < n) (hj : j < n) : MCr g l mX3_edgeOf d [.int (nI i), .int (nI j)] m A I B wd (some (.int (eI (p_edge wi ly i j)))) := by
  intro h hM
  obtain ⟨-, hw, hly, b1, b2, b3, b4⟩ := hB
  have hi1 := (hly i hi).1.1
  have hj1 := (hly j hj).1.1
  have ci := (hly i hi).2
  have cj := (hly j hj).2
  have hf : p_fst ly i j = i ∨ p_fst ly i j = j := by unfold p_fst; split; exact Or.inl rfl; exact Or.inr rfl
  have hfn : p_fst ly i j < n := by omega
  have hgn : i + j - p_fst ly i j < n := by omega
  have f1 := (hly _ hfn).1
  have g1 := (hly _ hgn).1
  have cf := (hly _ hfn).2
  have cg := (hly _ hgn).2
  have hmod : (ly (i + j - p_fst ly i j)).1 % wi < wi := Nat.mod_lt _ (by omega)
  refine Ct.of [some (.ref m), some (.int (nI i)), some (.int (nI j)), none, none, none, none] (by decide +kernel) rfl (Nat.le_of_ble_eq_true rfl) rfl rfl ?_
  refine x_joinV 20 (nI (p_fst ly i j)) (fun J => ?_) ?_
  · refine x_aload_n (M := mX3_edgeOf) (pc := 0) dX3_edgeOf_0 rfl ?_
    refine x_get (M := mX3_edgeOf) (pc := 1) kcX3 10 rfl q2845 dX3_edgeOf_1 hM.1 rfl ?_
    refine x_iload_n (M := mX3_edgeOf) (pc := 4) dX3_edgeOf_4 rfl ?_
    refine xm_ialdV (M := mX3_edgeOf) (pc := 5) hM dX3_edgeOf_5 (hi1) (by decide) (by first | decide | (simp only [mSz] <;> omega)) ?_
    refine x_aload_n (M := mX3_edgeOf) (pc := 6) dX3_edgeOf_6 rfl ?_
    refine x_get (M := mX3_edgeOf) (pc := 7) kcX3 10 rfl q2845 dX3_edgeOf_7 hM.1 rfl ?_
    refine x_iload_n (M := mX3_edgeOf) (pc := 10) dX3_edgeOf_10 rfl ?_
    refine xm_ialdV (M := mX3_edgeOf) (pc := 11) hM dX3_edgeOf_11 (hj1) (by decide) (by first | decide | (simp only [mSz] <;> omega)) ?_
    first | with_reducible refine x_icmp_geN (M := mX3_edgeOf) (pc := 12) 19 dX3_edgeOf_12 (by decide) (by omega) (by omega) (fun c12 => ?_) (fun c12 => ?_) | refine x_icmp_ge (M := mX3_edgeOf) (pc := 12) 19 dX3_edgeOf_12 (by decide) (fun c12 => ?_) (fun c12 => ?_)
    · refine x_iload_n (M := mX3_edgeOf) (pc := 19) dX3_edgeOf_19 rfl ?_
      exact J _ (by first | rw [p_fst, if_pos (by omega)] | rw [p_fst, if_neg (by omega)])
    · refine x_iload_n (M := mX3_edgeOf) (pc := 15) dX3_edgeOf_15 rfl ?_
      refine x_goto (M := mX3_edgeOf) (pc := 16) 20 dX3_edgeOf_16 (by decide) ?_
      exact J _ (by first | rw [p_fst, if_pos (by omega)] | rw [p_fst, if_neg (by omega)])
  refine x_istore3 (M := mX3_edgeOf) (pc := 20) dX3_edgeOf_20 ?_
  refine x_aload_n (M := mX3_edgeOf) (pc := 21) dX3_edgeOf_21 rfl ?_
  refine x_get (M := mX3_edgeOf) (pc := 22) kcX3 0 rfl q2835 dX3_edgeOf_22 hM.1 rfl ?_
  refine x_iconst (M := mX3_edgeOf) (pc := 25) (v := nI 1) dX3_edgeOf_25 (by decide) ?_
  refine xm_ialdV (M := mX3_edgeOf) (pc := 26) hM dX3_edgeOf_26 (hw) (by decide) (by first | decide | (simp only [mSz] <;> omega)) ?_
  refine x_istore4 (M := mX3_edgeOf) (pc := 27) dX3_edgeOf_27 ?_
  refine x_aload_n (M := mX3_edgeOf) (pc := 29) dX3_edgeOf_29 rfl ?_
  refine x_get (M := mX3_edgeOf) (pc := 30) kcX3 10 rfl q2845 dX3_edgeOf_30 hM.1 rfl ?_
  refine x_iload_n (M := mX3_edgeOf) (pc := 33) dX3_edgeOf_33 rfl ?_
  refine xm_ialdV (M := mX3_edgeOf) (pc := 34) hM dX3_edgeOf_34 (f1.1) (by decide) (by first | decide | (simp only [mSz] <;> omega)) ?_
  refine x_istore5 (M := mX3_edgeOf) (pc := 35) dX3_edgeOf_35 ?_
  refine x_aload_n (M := mX3_edgeOf) (pc := 37) dX3_edgeOf_37 rfl ?_
  refine x_get (M := mX3_edgeOf) (pc := 38) kcX3 10 rfl q2845 dX3_edgeOf_38 hM.1 rfl ?_
  refine x_iload_n (M := mX3_edgeOf) (pc := 41) dX3_edgeOf_41 rfl ?_
  refine x_iload_n (M := mX3_edgeOf) (pc := 42) dX3_edgeOf_42 rfl ?_
  first | with_reducible refine x_iaddN (M := mX3_edgeOf) (pc := 43) dX3_edgeOf_43 ?_ | refine x_iadd (M := mX3_edgeOf) (pc := 43) dX3_edgeOf_43 ?_
  refine x_iload_n (M := mX3_edgeOf) (pc := 44) dX3_edgeOf_44 rfl ?_
  first | with_reducible refine x_isubN (M := mX3_edgeOf) (pc := 45) dX3_edgeOf_45 (by omega) ?_ | refine x_isub (M := mX3_edgeOf) (pc := 45) dX3_edgeOf_45 ?_
  refine xm_ialdV (M := mX3_edgeOf) (pc := 46) hM dX3_edgeOf_46 (g1.1) (by decide) (by first | decide | (simp only [mSz] <;> omega)) ?_
  refine x_istore6 (M := mX3_edgeOf) (pc := 47) dX3_edgeOf_47 ?_
  refine x_iload (M := mX3_edgeOf) (pc := 49) dX3_edgeOf_49 rfl ?_
  refine x_iload (M := mX3_edgeOf) (pc := 51) dX3_edgeOf_51 rfl ?_
  refine x_iconst (M := mX3_edgeOf) (pc := 53) (v := nI 1) dX3_edgeOf_53 (by decide) ?_
  first | with_reducible refine x_iaddN (M := mX3_edgeOf) (pc := 54) dX3_edgeOf_54 ?_ | refine x_iadd (M := mX3_edgeOf) (pc := 54) dX3_edgeOf_54 ?_
  first | with_reducible refine x_icmp_neN (M := mX3_edgeOf) (pc := 55) 81 dX3_edgeOf_55 (by decide) (by omega) (by omega) (fun c55 => ?_) (fun c55 => ?_) | refine x_icmp_ne (M := mX3_edgeOf) (pc := 55) 81 dX3_edgeOf_55 (by decide) (fun c55 => ?_) (fun c55 => ?_)
  · refine x_iload (M := mX3_edgeOf) (pc := 81) dX3_edgeOf_81 rfl ?_
    refine x_iload (M := mX3_edgeOf) (pc := 83) dX3_edgeOf_83 rfl ?_
    refine x_iload (M := mX3_edgeOf) (pc := 85) dX3_edgeOf_85 rfl ?_
    first | with_reducible refine x_iaddN (M := mX3_edgeOf) (pc := 87) dX3_edgeOf_87 ?_ | refine x_iadd (M := mX3_edgeOf) (pc := 87) dX3_edgeOf_87 ?_
    first | with_reducible refine x_icmp_neN (M := mX3_edgeOf) (pc := 88) 108 dX3_edgeOf_88 (by decide) (by omega) (by omega) (fun c88 => ?_) (fun c88 => ?_) | refine x_icmp_ne (M := mX3_edgeOf) (pc := 88) 108 dX3_edgeOf_88 (by decide) (fun c88 => ?_) (fun c88 => ?_)
    · refine x_iconst (M := mX3_edgeOf) (pc := 108) (v := (-1)) dX3_edgeOf_108 (by decide) ?_
      refine x_iret (M := mX3_edgeOf) (pc := 109) dX3_edgeOf_109 rfl (Nat.le_refl 0) (Nat.le_refl 0) ⟨congrArg Sum.inl ?_, rfl⟩
      exact (by first | (rw [p_edge_1 c55 c63, c72]; rfl) | (rw [p_edge_2 (fun z => c55 z.1) c88, c97]; rfl) | (rw [p_edge_2 (fun z => Nat.ne_of_gt z.2 c63) c88, c97]; rfl) | (rw [p_edge_3 (fun z => c55 z.1) c88]; rfl) | (rw [p_edge_3 (fun z => Nat.ne_of_gt z.2 c63) c88]; rfl))
    · refine x_aload_n (M := mX3_edgeOf) (pc := 91) dX3_edgeOf_91 rfl ?_
      refine x_get (M := mX3_edgeOf) (pc := 92) kcX3 13 rfl q2848 dX3_edgeOf_92 hM.1 rfl ?_
      refine x_iload_n (M := mX3_edgeOf) (pc := 95) dX3_edgeOf_95 rfl ?_
      refine xm_ialdV (M := mX3_edgeOf) (pc := 96) hM dX3_edgeOf_96 (f1.2.2.2) (by decide) (by first | decide | (simp only [mSz] <;> omega)) ?_
      first | with_reducible refine x_ifB_ne (M := mX3_edgeOf) (pc := 97) 104 dX3_edgeOf_97 (by decide) (fun c97 => ?_) (fun c97 => ?_) | with_reducible refine x_if_neN (M := mX3_edgeOf) (pc := 97) 104 dX3_edgeOf_97 (by decide) (by omega) (fun c97 => ?_) (fun c97 => ?_) | refine x_if_ne (M := mX3_edgeOf) (pc := 97) 104 dX3_edgeOf_97 (by decide) (fun c97 => ?_) (fun c97 => ?_)
      · refine x_iconst (M := mX3_edgeOf) (pc := 104) (v := nI 2) dX3_edgeOf_104 (by decide) ?_
        refine x_goto (M := mX3_edgeOf) (pc := 105) 109 dX3_edgeOf_105 (by decide) ?_
        refine x_iret (M := mX3_edgeOf) (pc := 109) dX3_edgeOf_109 rfl (Nat.le_refl 0) (Nat.le_refl 0) ⟨congrArg Sum.inl ?_, rfl⟩
        exact (by first | (rw [p_edge_1 c55 c63, c72]; rfl) | (rw [p_edge_2 (fun z => c55 z.1) c88, c97]; rfl) | (rw [p_edge_2 (fun z => Nat.ne_of_gt z.2 c63) c88, c97]; rfl) | (rw [p_edge_3 (fun z => c55 z.1) c88]; rfl) | (rw [p_edge_3 (fun z => Nat.ne_of_gt z.2 c63) c88]; rfl))
      · refine x_iconst (M := mX3_edgeOf) (pc := 100) (v := nI 3) dX3_edgeOf_100 (by decide) ?_
        refine x_goto (M := mX3_edgeOf) (pc := 101) 109 dX3_edgeOf_101 (by decide) ?_
        refine x_iret (M := mX3_edgeOf) (pc := 109) dX3_edgeOf_109 rfl (Nat.le_refl 0) (Nat.le_refl 0) ⟨congrArg Sum.inl ?_, rfl⟩
        exact (by first | (rw [p_edge_1 c55 c63, c72]; rfl) | (rw [p_edge_2 (fun z => c55 z.1) c88, c97]; rfl) | (rw [p_edge_2 (fun z => Nat.ne_of_gt z.2 c63) c88, c97]; rfl) | (rw [p_edge_3 (fun z => c55 z.1) c88]; rfl) | (rw [p_edge_3 (fun z => Nat.ne_of_gt z.2 c63) c88]; rfl))
  · refine x_iload (M := mX3_edgeOf) (pc := 58) dX3_edgeOf_58 rfl ?_
    refine x_iload (M := mX3_edgeOf) (pc := 60) dX3_edgeOf_60 rfl ?_
    first | with_reducible refine x_iremN (M := mX3_edgeOf) (pc := 62) dX3_edgeOf_62 (by omega) (by omega) (by omega) ?_ | refine x_irem (M := mX3_edgeOf) (pc := 62) dX3_edgeOf_62 (by first | decide | assumption) ?_
    first | with_reducible refine x_if_leN (M := mX3_edgeOf) (pc := 63) 81 dX3_edgeOf_63 (by decide) (by omega) (fun c63 => ?_) (fun c63 => ?_) | refine x_if_le (M := mX3_edgeOf) (pc := 63) 81 dX3_edgeOf_63 (by decide) (fun c63 => ?_) (fun c63 => ?_)
    · refine x_iload (M := mX3_edgeOf) (pc := 81) dX3_edgeOf_81 rfl ?_
      refine x_iload (M := mX3_edgeOf) (pc := 83) dX3_edgeOf_83 rfl ?_
      refine x_iload (M := mX3_edgeOf) (pc := 85) dX3_edgeOf_85 rfl ?_
      first | with_reducible refine x_iaddN (M := mX3_edgeOf) (pc := 87) dX3_edgeOf_87 ?_ | refine x_iadd (M := mX3_edgeOf) (pc := 87) dX3_edgeOf_87 ?_
      first | with_reducible refine x_icmp_neN (M := mX3_edgeOf) (pc := 88) 108 dX3_edgeOf_88 (by decide) (by omega) (by omega) (fun c88 => ?_) (fun c88 => ?_) | refine x_icmp_ne (M := mX3_edgeOf) (pc := 88) 108 dX3_edgeOf_88 (by decide) (fun c88 => ?_) (fun c88 => ?_)
      · refine x_iconst (M := mX3_edgeOf) (pc := 108) (v := (-1)) dX3_edgeOf_108 (by decide) ?_
        refine x_iret (M := mX3_edgeOf) (pc := 109) dX3_edgeOf_109 rfl (Nat.le_refl 0) (Nat.le_refl 0) ⟨congrArg Sum.inl ?_, rfl⟩
        exact (by first | (rw [p_edge_1 c55 c63, c72]; rfl) | (rw [p_edge_2 (fun z => c55 z.1) c88, c97]; rfl) | (rw [p_edge_2 (fun z => Nat.ne_of_gt z.2 c63) c88, c97]; rfl) | (rw [p_edge_3 (fun z => c55 z.1) c88]; rfl) | (rw [p_edge_3 (fun z => Nat.ne_of_gt z.2 c63) c88]; rfl))
      · refine x_aload_n (M := mX3_edgeOf) (pc := 91) dX3_edgeOf_91 rfl ?_
        refine x_get (M := mX3_edgeOf) (pc := 92) kcX3 13 rfl q2848 dX3_edgeOf_92 hM.1 rfl ?_
        refine x_iload_n (M := mX3_edgeOf) (pc := 95) dX3_edgeOf_95 rfl ?_
        refine xm_ialdV (M := mX3_edgeOf) (pc := 96) hM dX3_edgeOf_96 (f1.2.2.2) (by decide) (by first | decide | (simp only [mSz] <;> omega)) ?_
        first | with_reducible refine x_ifB_ne (M := mX3_edgeOf) (pc := 97) 104 dX3_edgeOf_97 (by decide) (fun c97 => ?_) (fun c97 => ?_) | with_reducible refine x_if_neN (M := mX3_edgeOf) (pc := 97) 104 dX3_edgeOf_97 (by decide) (by omega) (fun c97 => ?_) (fun c97 => ?_) | refine x_if_ne (M := mX3_edgeOf) (pc := 97) 104 dX3_edgeOf_97 (by decide) (fun c97 => ?_) (fun c97 => ?_)
        · refine x_iconst (M := mX3_edgeOf) (pc := 104) (v := nI 2) dX3_edgeOf_104 (by decide) ?_
          refine x_goto (M := mX3_edgeOf) (pc := 105) 109 dX3_edgeOf_105 (by decide) ?_
          refine x_iret (M := mX3_edgeOf) (pc := 109) dX3_edgeOf_109 rfl (Nat.le_refl 0) (Nat.le_refl 0) ⟨congrArg Sum.inl ?_, rfl⟩
          exact (by first | (rw [p_edge_1 c55 c63, c72]; rfl) | (rw [p_edge_2 (fun z => c55 z.1) c88, c97]; rfl) | (rw [p_edge_2 (fun z => Nat.ne_of_gt z.2 c63) c88, c97]; rfl) | (rw [p_edge_3 (fun z => c55 z.1) c88]; rfl) | (rw [p_edge_3 (fun z => Nat.ne_of_gt z.2 c63) c88]; rfl))
        · refine x_iconst (M := mX3_edgeOf) (pc := 100) (v := nI 3) dX3_edgeOf_100 (by decide) ?_
          refine x_goto (M := mX3_edgeOf) (pc := 101) 109 dX3_edgeOf_101 (by decide) ?_
          refine x_iret (M := mX3_edgeOf) (pc := 109) dX3_edgeOf_109 rfl (Nat.le_refl 0) (Nat.le_refl 0) ⟨congrArg Sum.inl ?_, rfl⟩
          exact (by first | (rw [p_edge_1 c55 c63, c72]; rfl) | (rw [p_edge_2 (fun z => c55 z.1) c88, c97]; rfl) | (rw [p_edge_2 (fun z => Nat.ne_of_gt z.2 c63) c88, c97]; rfl) | (rw [p_edge_3 (fun z => c55 z.1) c88]; rfl) | (rw [p_edge_3 (fun z => Nat.ne_of_gt z.2 c63) c88]; rfl))
    · refine x_aload_n (M := mX3_edgeOf) (pc := 66) dX3_edgeOf_66 rfl ?_
      refine x_get (M := mX3_edgeOf) (pc := 67) kcX3 12 rfl q2847 dX3_edgeOf_67 hM.1 rfl ?_
      refine x_iload_n (M := mX3_edgeOf) (pc := 70) dX3_edgeOf_70 rfl ?_
      refine xm_ialdV (M := mX3_edgeOf) (pc := 71) hM dX3_edgeOf_71 (f1.2.2.1) (by decide) (by first | decide | (simp only [mSz] <;> omega)) ?_
      first | with_reducible refine x_ifB_ne (M := mX3_edgeOf) (pc := 72) 79 dX3_edgeOf_72 (by decide) (fun c72 => ?_) (fun c72 => ?_) | with_reducible refine x_if_neN (M := mX3_edgeOf) (pc := 72) 79 dX3_edgeOf_72 (by decide) (by omega) (fun c72 => ?_) (fun c72 => ?_) | refine x_if_ne (M := mX3_edgeOf) (pc := 72) 79 dX3_edgeOf_72 (by decide) (fun c72 => ?_) (fun c72 => ?_)
      · refine x_iconst (M := mX3_edgeOf) (pc := 79) (v := nI 0) dX3_edgeOf_79 (by decide) ?_
        refine x_iret (M := mX3_edgeOf) (pc := 80) dX3_edgeOf_80 rfl (Nat.le_refl 0) (Nat.le_refl 0) ⟨congrArg Sum.inl ?_, rfl⟩
        exact (by first | (rw [p_edge_1 c55 c63, c72]; rfl) | (rw [p_edge_2 (fun z => c55 z.1) c88, c97]; rfl) | (rw [p_edge_2 (fun z => Nat.ne_of_gt z.2 c63) c88, c97]; rfl) | (rw [p_edge_3 (fun z => c55 z.1) c88]; rfl) | (rw [p_edge_3 (fun z => Nat.ne_of_gt z.2 c63) c88]; rfl))
      · refine x_iconst (M := mX3_edgeOf) (pc := 75) (v := nI 1) dX3_edgeOf_75 (by decide) ?_
        refine x_goto (M := mX3_edgeOf) (pc := 76) 80 dX3_edgeOf_76 (by decide) ?_
        refine x_iret (M := mX3_edgeOf) (pc := 80) dX3_edgeOf_80 rfl (Nat.le_refl 0) (Nat.le_refl 0) ⟨congrArg Sum.inl ?_, rfl⟩
        exact (by first | (rw [p_edge_1 c55 c63, c72]; rfl) | (rw [p_edge_2 (fun z => c55 z.1) c88, c97]; rfl) | (rw [p_edge_2 (fun z => Nat.ne_of_gt z.2 c63) c88, c97]; rfl) | (rw [p_edge_3 (fun z => c55 z.1) c88]; rfl) | (rw [p_edge_3 (fun z => Nat.ne_of_gt z.2 c63) c88]; rfl))
theorem m_has_n (h : xH) (a b : Nat) (ha : a < 2 ^ 31) (hb : b < 32) (d : Nat) : Ct g l mX3_has d 0 0 [.int (nI a), .int (nI b)] h (fun o h' => o = .inl (some (.int (bI (a.testBit b)))) ∧ h' = h) := by
  refine (m_has h (nI a) (nI b) d).mono (fun o h' hq => ⟨hq.1.trans ?_, hq.2⟩)
  have := nI_bit ha hb
  cases e : a.testBit b with
  | true => rw [decide_eq_true (this.mpr e)]
  | false => rw [decide_eq_false (fun z => by rw [this.mp z] at e; cases e)]
theorem m_shutBy_l1 (d n wi : Nat) (ly : Nat → Lay) (hB : BK I B n wi ly) (sp : Nat) (hs : B 0 7 = nI sp) (hs2 : sp < 2) (c o i : Nat) (hc : c < 16) (ho : o ≤ n) (hi : i < o) (hd : 2 ≤ d) (Q : xO → xH → Prop) (S : Nat) (hS : S < 16) (h : xH) (hM : MR g h m A I B wd)
    (hE : ∀ a6, X g l mX3_shutBy d 0 0 Q 73 [some (.ref m), some (.int (nI o)), some (.int (nI c)), some (.int (nI (S ||| orN (fun j => p_bit c (p_se sp) (p_edge wi ly i (o + j))) (n - o)))), some (.int (nI i)), some (.int (nI n)), a6] [] h 0 0) :
    ∀ q k, k + q = n - o → ∀ a6, X g l mX3_shutBy d 0 0 Q 14 [some (.ref m), some (.int (nI o)), some (.int (nI c)), some (.int (nI (S ||| orN (fun j => p_bit c (p_se sp) (p_edge wi ly i (o + j))) k))), some (.int (nI i)), some (.int (nI (o + k))), a6] [] h 0 0 := by
  have b2 := hB.2.2.2.2.1
  intro q
  induction q with
  | zero =>
    intro k hk a6
    have : k = n - o := by omega
    subst this
    refine x_iload (M := mX3_shutBy) (pc := 14) dX3_shutBy_14 rfl ?_
    refine x_aload_n (M := mX3_shutBy) (pc := 16) dX3_shutBy_16 rfl ?_
    refine x_get (M := mX3_shutBy) (pc := 17) kcX3 9 rfl q2844 dX3_shutBy_17 hM.1 rfl ?_
    refine x_val (M := mX3_shutBy) (pc := 20) (hB.1) ?_
    first | with_reducible refine x_icmp_geN (M := mX3_shutBy) (pc := 20) 73 dX3_shutBy_20 (by decide) (by omega) (by omega) (fun c1 => ?_) (fun c1 => ?_) | refine x_icmp_ge (M := mX3_shutBy) (pc := 20) 73 dX3_shutBy_20 (by decide) (fun c1 => ?_) (fun c1 => ?_)
    · rw [show o + (n - o) = n by omega]; exact hE a6
    · omega
  | succ q ih =>
    intro k hk a6
    refine x_iload (M := mX3_shutBy) (pc := 14) dX3_shutBy_14 rfl ?_
    refine x_aload_n (M := mX3_shutBy) (pc := 16) dX3_shutBy_16 rfl ?_
    refine x_get (M := mX3_shutBy) (pc := 17) kcX3 9 rfl q2844 dX3_shutBy_17 hM.1 rfl ?_
    refine x_val (M := mX3_shutBy) (pc := 20) (hB.1) ?_
    first | with_reducible refine x_icmp_geN (M := mX3_shutBy) (pc := 20) 73 dX3_shutBy_20 (by decide) (by omega) (by omega) (fun c1 => ?_) (fun c1 => ?_) | refine x_icmp_ge (M := mX3_shutBy) (pc := 20) 73 dX3_shutBy_20 (by decide) (fun c1 => ?_) (fun c1 => ?_)
    · omega
    · refine x_aload_n (M := mX3_shutBy) (pc := 23) dX3_shutBy_23 rfl ?_
      refine x_iload (M := mX3_shutBy) (pc := 24) dX3_shutBy_24 rfl ?_
      refine x_iload (M := mX3_shutBy) (pc := 26) dX3_shutBy_26 rfl ?_
      refine x_V2 (M := mX3_shutBy) (pc := 28) (M' := mX3_edgeOf) q3034 kVX3_edgeOf dX3_shutBy_28 (m_edgeOf (d - 1) n wi ly hB i (o + k) (by omega) (by omega) h hM) (hM.is) (fun v_ h hq_ => ?_)
      obtain ⟨hv_, rfl⟩ := hq_
      cases hv_
      have hlt := orN_lt (k := 4) (f := fun j => p_bit c (p_se sp) (p_edge wi ly i (o + j))) (fun j => p_bit_lt) k
      have hlt2 : S ||| orN (fun j => p_bit c (p_se sp) (p_edge wi ly i (o + j))) k < 2 ^ 4 := Nat.or_lt_two_pow hS hlt
      cases he : p_edge wi ly i (o + k) with
      | none =>
        refine x_val (M := mX3_shutBy) (pc := 31) (w := -1) rfl ?_
        refine x_istore6 (M := mX3_shutBy) (pc := 31) dX3_shutBy_31 ?_
        refine x_iload_n (M := mX3_shutBy) (pc := 33) dX3_shutBy_33 rfl ?_
        refine x_joinV 65 (nI (p_bit c (p_se sp) (p_edge wi ly i (o + k)))) (fun J => ?_) ?_
        · refine x_iload (M := mX3_shutBy) (pc := 34) dX3_shutBy_34 rfl ?_
          first | refine x_if_lt (M := mX3_shutBy) (pc := 36) 64 dX3_shutBy_36 (by decide) (fun c36 => ?_) (fun c36 => ?_)
          · refine x_iconst (M := mX3_shutBy) (pc := 64) (v := nI 0) dX3_shutBy_64 (by decide) ?_
            exact J _ (by rw [he]; rfl)
          · exact absurd (by decide) c36
        refine x_ior (M := mX3_shutBy) (pc := 65) dX3_shutBy_65 ?_
        refine x_istore3 (M := mX3_shutBy) (pc := 66) dX3_shutBy_66 ?_
        first | refine x_iinc5N (M := mX3_shutBy) (pc := 67) (c := 1) dX3_shutBy_67 oI1 ?_ | refine x_iinc5 (M := mX3_shutBy) (pc := 67) (c := 1) dX3_shutBy_67 (by decide) ?_
        refine x_goto (M := mX3_shutBy) (pc := 70) 14 dX3_shutBy_70 (by decide) ?_
        rw [nI_or, Nat.or_assoc]; exact ih (k + 1) (by omega) _
      | some e =>
        have he4 := p_edge_lt he
        have hse : p_se sp < 3 := by unfold p_se; split <;> omega
        refine x_val (M := mX3_shutBy) (pc := 31) (w := nI e) rfl ?_
        refine x_istore6 (M := mX3_shutBy) (pc := 31) dX3_shutBy_31 ?_
        refine x_iload_n (M := mX3_shutBy) (pc := 33) dX3_shutBy_33 rfl ?_
        refine x_joinV 65 (nI (p_bit c (p_se sp) (p_edge wi ly i (o + k)))) (fun J => ?_) ?_
        · refine x_iload (M := mX3_shutBy) (pc := 34) dX3_shutBy_34 rfl ?_
          first | refine x_if_lt (M := mX3_shutBy) (pc := 36) 64 dX3_shutBy_36 (by decide) (fun c36 => ?_) (fun c36 => ?_)
          · exact absurd c36 (nI_pos (by omega))
          · refine x_iload_n (M := mX3_shutBy) (pc := 39) dX3_shutBy_39 rfl ?_
            refine x_iload (M := mX3_shutBy) (pc := 40) dX3_shutBy_40 rfl ?_
            refine x_S2 (M := mX3_shutBy) (pc := 42) (M' := mX3_has) q3027 kSX3_has dX3_shutBy_42 (m_has_n h c e (by omega) (by omega) (d - 1)) (fun v_ h hq_ => ?_)
            obtain ⟨hv_, rfl⟩ := hq_; cases hv_
            first | with_reducible refine x_ifB_ne (M := mX3_shutBy) (pc := 45) 64 dX3_shutBy_45 (by decide) (fun c45 => ?_) (fun c45 => ?_) | with_reducible refine x_if_neN (M := mX3_shutBy) (pc := 45) 64 dX3_shutBy_45 (by decide) (by omega) (fun c45 => ?_) (fun c45 => ?_) | refine x_if_ne (M := mX3_shutBy) (pc := 45) 64 dX3_shutBy_45 (by decide) (fun c45 => ?_) (fun c45 => ?_)
            · refine x_iconst (M := mX3_shutBy) (pc := 64) (v := nI 0) dX3_shutBy_64 (by decide) ?_
              exact J _ (by simp [he, p_bit, *])
            · refine x_iload (M := mX3_shutBy) (pc := 48) dX3_shutBy_48 rfl ?_
              refine x_aload_n (M := mX3_shutBy) (pc := 50) dX3_shutBy_50 rfl ?_
              refine x_V0 (M := mX3_shutBy) (pc := 51) (M' := mX3_spineEdge) q3209 kVX3_spineEdge dX3_shutBy_51 (m_spineEdge (d - 1) sp hs hs2 h hM) (hM.is) (fun v_ h hq_ => ?_)
              obtain ⟨hv_, rfl⟩ := hq_; cases hv_
              first | with_reducible refine x_icmp_eqN (M := mX3_shutBy) (pc := 54) 64 dX3_shutBy_54 (by decide) (by omega) (by omega) (fun c54 => ?_) (fun c54 => ?_) | refine x_icmp_eq (M := mX3_shutBy) (pc := 54) 64 dX3_shutBy_54 (by decide) (fun c54 => ?_) (fun c54 => ?_)
              · refine x_iconst (M := mX3_shutBy) (pc := 64) (v := nI 0) dX3_shutBy_64 (by decide) ?_
                exact J _ (by simp [he, p_bit, *])
              · refine x_iconst (M := mX3_shutBy) (pc := 57) (v := nI 1) dX3_shutBy_57 (by decide) ?_
                refine x_iload (M := mX3_shutBy) (pc := 58) dX3_shutBy_58 rfl ?_
                refine x_ishl (M := mX3_shutBy) (pc := 60) dX3_shutBy_60 ?_
                refine x_val (M := mX3_shutBy) (pc := 61) (nI_one e (by omega)) ?_
                refine x_goto (M := mX3_shutBy) (pc := 61) 65 dX3_shutBy_61 (by decide) ?_
                exact J _ (by simp [he, p_bit, *])
        refine x_ior (M := mX3_shutBy) (pc := 65) dX3_shutBy_65 ?_
        refine x_istore3 (M := mX3_shutBy) (pc := 66) dX3_shutBy_66 ?_
        first | refine x_iinc5N (M := mX3_shutBy) (pc := 67) (c := 1) dX3_shutBy_67 oI1 ?_ | refine x_iinc5 (M := mX3_shutBy) (pc := 67) (c := 1) dX3_shutBy_67 (by decide) ?_
        refine x_goto (M := mX3_shutBy) (pc := 70) 14 dX3_shutBy_70 (by decide) ?_
        rw [nI_or, Nat.or_assoc]; exact ih (k + 1) (by omega) _
theorem m_shutBy_l2 (d n wi : Nat) (ly : Nat → Lay) (hB : BK I B n wi ly) (sp : Nat) (hs : B 0 7 = nI sp) (hs2 : sp < 2) (c o : Nat) (hc : c < 16) (ho : o ≤ n) (hd : 2 ≤ d) (Q : xO → xH → Prop) (h : xH) (hM : MR g h m A I B wd)
    (hE : Q (.inl (some (.int (nI (p_shut c (p_se sp) wi ly n o))))) h) :
    ∀ q i, i + q = o → ∀ a5 a6, X g l mX3_shutBy d 0 0 Q 5 [some (.ref m), some (.int (nI o)), some (.int (nI c)), some (.int (nI (orN (fun i => orN (fun j => p_bit c (p_se sp) (p_edge wi ly i (o + j))) (n - o)) i))), some (.int (nI i)), a5, a6] [] h 0 0 := by
  have b2 := hB.2.2.2.2.1
  intro q
  induction q with
  | zero =>
    intro i hi a5 a6
    have : i = o := by omega
    subst this
    refine x_iload (M := mX3_shutBy) (pc := 5) dX3_shutBy_5 rfl ?_
    refine x_iload_n (M := mX3_shutBy) (pc := 7) dX3_shutBy_7 rfl ?_
    first | with_reducible refine x_icmp_geN (M := mX3_shutBy) (pc := 8) 79 dX3_shutBy_8 (by decide) (by omega) (by omega) (fun c1 => ?_) (fun c1 => ?_) | refine x_icmp_ge (M := mX3_shutBy) (pc := 8) 79 dX3_shutBy_8 (by decide) (fun c1 => ?_) (fun c1 => ?_)
    · refine x_iload_n (M := mX3_shutBy) (pc := 79) dX3_shutBy_79 rfl ?_
      exact x_iret (pc := 80) dX3_shutBy_80 rfl (Nat.le_refl 0) (Nat.le_refl 0) hE
    · omega
  | succ q ih =>
    intro i hi a5 a6
    refine x_iload (M := mX3_shutBy) (pc := 5) dX3_shutBy_5 rfl ?_
    refine x_iload_n (M := mX3_shutBy) (pc := 7) dX3_shutBy_7 rfl ?_
    first | with_reducible refine x_icmp_geN (M := mX3_shutBy) (pc := 8) 79 dX3_shutBy_8 (by decide) (by omega) (by omega) (fun c1 => ?_) (fun c1 => ?_) | refine x_icmp_ge (M := mX3_shutBy) (pc := 8) 79 dX3_shutBy_8 (by decide) (fun c1 => ?_) (fun c1 => ?_)
    · omega
    · refine x_iload_n (M := mX3_shutBy) (pc := 11) dX3_shutBy_11 rfl ?_
      refine x_istore5 (M := mX3_shutBy) (pc := 12) dX3_shutBy_12 ?_
      have hS := orN_lt (k := 4) (f := fun i => orN (fun j => p_bit c (p_se sp) (p_edge wi ly i (o + j))) (n - o)) (fun i => orN_lt (k := 4) (fun j => p_bit_lt) _) i
      have := m_shutBy_l1 (l := l) (A := A) (m := m) (wd := wd) d n wi ly hB sp hs hs2 c o i hc ho (by omega) hd Q _ hS h hM (fun a6 => ?_) (n - o) 0 (by omega) a6
      · rw [orN, Nat.or_zero] at this; exact this
      · first | refine x_iinc4N (M := mX3_shutBy) (pc := 73) (c := 1) dX3_shutBy_73 oI1 ?_ | refine x_iinc4 (M := mX3_shutBy) (pc := 73) (c := 1) dX3_shutBy_73 (by decide) ?_
        refine x_goto (M := mX3_shutBy) (pc := 76) 5 dX3_shutBy_76 (by decide) ?_
        exact ih (i + 1) (by omega) _ _
theorem m_shutBy (d n wi : Nat) (ly : Nat → Lay) (hB : BK I B n wi ly) (sp : Nat) (hs : B 0 7 = nI sp) (hs2 : sp < 2) (c o : Nat) (hc : c < 16) (ho : o ≤ n) (hd : 2 ≤ d) : MCr g l mX3_shutBy d [.int (nI o), .int (nI c)] m A I B wd (some (.int (nI (p_shut c (p_se sp) wi ly n o)))) := by
  intro h hM
  refine Ct.of [some (.ref m), some (.int (nI o)), some (.int (nI c)), none, none, none, none] (by decide +kernel) rfl (Nat.le_of_ble_eq_true rfl) rfl rfl ?_
  refine x_iconst (M := mX3_shutBy) (pc := 0) (v := nI 0) dX3_shutBy_0 (by decide) ?_
  refine x_istore3 (M := mX3_shutBy) (pc := 1) dX3_shutBy_1 ?_
  refine x_iconst (M := mX3_shutBy) (pc := 2) (v := nI 0) dX3_shutBy_2 (by decide) ?_
  refine x_istore4 (M := mX3_shutBy) (pc := 3) dX3_shutBy_3 ?_
  exact m_shutBy_l2 d n wi ly hB sp hs hs2 c o hc ho hd _ h hM ⟨rfl, rfl⟩ o 0 (Nat.zero_add _) _ _
theorem m_isHidden (d n wi : Nat) (ly : Nat → Lay) (hB : BK I B n wi ly) (sp : Nat) (hs : B 0 7 = nI sp) (hs2 : sp < 2) (c : Nat) (hc : B 0 8 = nI c) (hc2 : c < 16) (pg : Nat) (hp : pg < 2 * n) (hd : 3 ≤ d) : MCr g l mX3_isHidden d [.int (nI pg)] m A I B wd (some (.int (bI (decide (p_shut c (p_se sp) wi ly n ((pg + 1) / 2) ≠ 0))))) := by
  intro h hM
  have b2 := hB.2.2.2.2.1
  have hsl := p_shut_lt (c := c) (se := p_se sp) (wi := wi) (ly := ly) (n := n) (o := (pg + 1) / 2)
  refine Ct.of [some (.ref m), some (.int (nI pg))] (by decide +kernel) rfl (Nat.le_of_ble_eq_true rfl) rfl rfl ?_
  refine x_aload_n (M := mX3_isHidden) (pc := 0) dX3_isHidden_0 rfl ?_
  refine x_iload_n (M := mX3_isHidden) (pc := 1) dX3_isHidden_1 rfl ?_
  refine x_iconst (M := mX3_isHidden) (pc := 2) (v := nI 1) dX3_isHidden_2 (by decide) ?_
  first | with_reducible refine x_iaddN (M := mX3_isHidden) (pc := 3) dX3_isHidden_3 ?_ | refine x_iadd (M := mX3_isHidden) (pc := 3) dX3_isHidden_3 ?_
  refine x_iconst (M := mX3_isHidden) (pc := 4) (v := nI 2) dX3_isHidden_4 (by decide) ?_
  first | with_reducible refine x_idivN (M := mX3_isHidden) (pc := 5) dX3_isHidden_5 (by omega) (by omega) (by omega) ?_ | refine x_idiv (M := mX3_isHidden) (pc := 5) dX3_isHidden_5 (by first | decide | assumption) ?_
  refine x_aload_n (M := mX3_isHidden) (pc := 6) dX3_isHidden_6 rfl ?_
  refine x_get (M := mX3_isHidden) (pc := 7) kcX3 0 rfl q2835 dX3_isHidden_7 hM.1 rfl ?_
  refine x_bipush (M := mX3_isHidden) (pc := 10) (v := nI 8) dX3_isHidden_10 (by decide) ?_
  refine xm_ialdV (M := mX3_isHidden) (pc := 12) hM dX3_isHidden_12 (hc) (by decide) (by first | decide | (simp only [mSz] <;> omega)) ?_
  refine x_V2 (M := mX3_isHidden) (pc := 13) (M' := mX3_shutBy) q3205 kVX3_shutBy dX3_isHidden_13 (m_shutBy (d - 1) n wi ly hB sp hs hs2 c ((pg + 1) / 2) hc2 (by omega) (by omega) h hM) (hM.is) (fun v_ h hq_ => ?_)
  obtain ⟨hv_, rfl⟩ := hq_; cases hv_
  first | with_reducible refine x_ifB_eq (M := mX3_isHidden) (pc := 16) 23 dX3_isHidden_16 (by decide) (fun c16 => ?_) (fun c16 => ?_) | with_reducible refine x_if_eqN (M := mX3_isHidden) (pc := 16) 23 dX3_isHidden_16 (by decide) (by omega) (fun c16 => ?_) (fun c16 => ?_) | refine x_if_eq (M := mX3_isHidden) (pc := 16) 23 dX3_isHidden_16 (by decide) (fun c16 => ?_) (fun c16 => ?_)
  · refine x_iconst (M := mX3_isHidden) (pc := 23) (v := nI 0) dX3_isHidden_23 (by decide) ?_
    refine x_zret (M := mX3_isHidden) (pc := 24) dX3_isHidden_24 rfl (by first | with_reducible exact xz0 | with_reducible exact xz1 | with_reducible exact bI_01 _ | with_reducible assumption | assumption) (Nat.le_refl 0) (Nat.le_refl 0) ⟨congrArg Sum.inl ?_, rfl⟩
    exact (by first | exact vB1 (by simp [c16]) | exact vB0 (by simp [c16]))
  · refine x_iconst (M := mX3_isHidden) (pc := 19) (v := nI 1) dX3_isHidden_19 (by decide) ?_
    refine x_goto (M := mX3_isHidden) (pc := 20) 24 dX3_isHidden_20 (by decide) ?_
    refine x_zret (M := mX3_isHidden) (pc := 24) dX3_isHidden_24 rfl (by first | with_reducible exact xz0 | with_reducible exact xz1 | with_reducible exact bI_01 _ | with_reducible assumption | assumption) (Nat.le_refl 0) (Nat.le_refl 0) ⟨congrArg Sum.inl ?_, rfl⟩
    exact (by first | exact vB1 (by simp [c16]) | exact vB0 (by simp [c16]))
theorem m_isItsOwn (d n wi : Nat) (ly : Nat → Lay) (hB : BK I B n wi ly) (sp : Nat) (hs : B 0 7 = nI sp) (hs2 : sp < 2) (tu : Nat → Bool) (ht : ∀ k, k < 32 → B 0 (122 + k) = bI (tu k)) (pg : Nat) (hp : pg < 2 * n) (hd : 2 ≤ d) : MCr g l mX3_isItsOwn d [.int (nI pg)] m A I B wd (some (.int (bI (decide (B 0 (90 + p_sd ly pg) = nI pg) && (p_tn ly sp pg == tu (p_sd ly pg)))))) := by
  intro h hM
  refine Ct.of [some (.ref m), some (.int (nI pg))] (by decide +kernel) rfl (Nat.le_of_ble_eq_true rfl) rfl rfl ?_
  refine x_aload_n (M := mX3_isItsOwn) (pc := 0) dX3_isItsOwn_0 rfl ?_
  refine x_iload_n (M := mX3_isItsOwn) (pc := 1) dX3_isItsOwn_1 rfl ?_
  refine x_V1 (M := mX3_isItsOwn) (pc := 2) (M' := mX3_printedOn) q3217 kVX3_printedOn dX3_isItsOwn_2 (m_printedOn (d - 1) n wi ly hB pg hp (by omega) h hM) (hM.is) (fun v_ h hq_ => ?_)
  obtain ⟨hv_, rfl⟩ := hq_; cases hv_
  refine x_iload_n (M := mX3_isItsOwn) (pc := 5) dX3_isItsOwn_5 rfl ?_
  refine x_icmp_ne (M := mX3_isItsOwn) (pc := 6) 21 dX3_isItsOwn_6 (by decide) (fun r_c => ?_) (fun r_c => ?_)
  · refine x_iconst (M := mX3_isItsOwn) (pc := 21) (v := nI 0) dX3_isItsOwn_21 (by decide) ?_
    refine x_zret (M := mX3_isItsOwn) (pc := 22) dX3_isItsOwn_22 rfl (by first | with_reducible exact xz0 | with_reducible exact xz1 | with_reducible exact bI_01 _ | with_reducible assumption | assumption) (Nat.le_refl 0) (Nat.le_refl 0) ⟨congrArg Sum.inl ?_, rfl⟩
    exact (by first | exact vB1 (by simp [*]) | exact vB0 (by simp [*]))
  · refine x_aload_n (M := mX3_isItsOwn) (pc := 9) dX3_isItsOwn_9 rfl ?_
    refine x_iload_n (M := mX3_isItsOwn) (pc := 10) dX3_isItsOwn_10 rfl ?_
    refine x_V1 (M := mX3_isItsOwn) (pc := 11) (M' := mX3_isUpright) q3197 kVX3_isUpright dX3_isItsOwn_11 (m_isUpright (d - 1) n wi ly hB sp hs hs2 tu ht pg hp (by omega) h hM) (hM.is) (fun v_ h hq_ => ?_)
    obtain ⟨hv_, rfl⟩ := hq_; cases hv_
    first | with_reducible refine x_ifB_eq (M := mX3_isItsOwn) (pc := 14) 21 dX3_isItsOwn_14 (by decide) (fun c14 => ?_) (fun c14 => ?_) | with_reducible refine x_if_eqN (M := mX3_isItsOwn) (pc := 14) 21 dX3_isItsOwn_14 (by decide) (by omega) (fun c14 => ?_) (fun c14 => ?_) | refine x_if_eq (M := mX3_isItsOwn) (pc := 14) 21 dX3_isItsOwn_14 (by decide) (fun c14 => ?_) (fun c14 => ?_)
    · refine x_iconst (M := mX3_isItsOwn) (pc := 21) (v := nI 0) dX3_isItsOwn_21 (by decide) ?_
      refine x_zret (M := mX3_isItsOwn) (pc := 22) dX3_isItsOwn_22 rfl (by first | with_reducible exact xz0 | with_reducible exact xz1 | with_reducible exact bI_01 _ | with_reducible assumption | assumption) (Nat.le_refl 0) (Nat.le_refl 0) ⟨congrArg Sum.inl ?_, rfl⟩
      exact (by first | exact vB1 (by simp [*]) | exact vB0 (by simp [*]))
    · refine x_iconst (M := mX3_isItsOwn) (pc := 17) (v := nI 1) dX3_isItsOwn_17 (by decide) ?_
      refine x_goto (M := mX3_isItsOwn) (pc := 18) 22 dX3_isItsOwn_18 (by decide) ?_
      refine x_zret (M := mX3_isItsOwn) (pc := 22) dX3_isItsOwn_22 rfl (by first | with_reducible exact xz0 | with_reducible exact xz1 | with_reducible exact bI_01 _ | with_reducible assumption | assumption) (Nat.le_refl 0) (Nat.le_refl 0) ⟨congrArg Sum.inl ?_, rfl⟩
      exact (by first | exact vB1 (by simp [*]) | exact vB0 (by simp [*]))
end MODEL7

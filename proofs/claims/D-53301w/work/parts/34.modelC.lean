section MODELC
set_option maxRecDepth 100000
variable {g : xG} {l : Launch} {m : Nat} {A : Nat → Nat} {I : Nat → Int32} {B : Nat → Nat → Int32} {wd : Int64}
theorem p_prs_le (wi : Nat) (ly : Nat → Lay) (n e : Nat) : ∀ i, smN (fun i => smN (fun j => if p_edge wi ly i (i + 1 + j) = some e then 1 else 0) (n - (i + 1))) i ≤ n * i
  | 0 => Nat.le_refl _
  | i + 1 => by
    rw [smN, Nat.mul_succ]
    have h1 := p_prs_le wi ly n e i
    have h2 := smN_le (f := fun j => if p_edge wi ly i (i + 1 + j) = some e then 1 else 0) (k := 1) (fun j => by split <;> omega) (n - (i + 1))
    omega
theorem m_pairsAt_l1 (d n wi : Nat) (ly : Nat → Lay) (hB : BK I B n wi ly) (e i : Nat) (he : e < 100) (hi : i < n) (hd : 1 ≤ d) (Q : xO → xH → Prop) (S : Nat) (h : xH) (hM : MR g h m A I B wd)
    (hE : X g l mX3_pairsAt d 0 0 Q 51 [some (.ref m), some (.int (nI e)), some (.int (nI (S + smN (fun j => if p_edge wi ly i (i + 1 + j) = some e then 1 else 0) (n - (i + 1))))), some (.int (nI i)), some (.int (nI n))] [] h 0 0) :
    ∀ q k, k + q = n - (i + 1) → X g l mX3_pairsAt d 0 0 Q 17 [some (.ref m), some (.int (nI e)), some (.int (nI (S + smN (fun j => if p_edge wi ly i (i + 1 + j) = some e then 1 else 0) k))), some (.int (nI i)), some (.int (nI (i + 1 + k)))] [] h 0 0 := by
  have b2 := hB.2.2.2.2.1
  intro q
  induction q with
  | zero =>
    intro k hk
    have : k = n - (i + 1) := by omega
    subst this
    refine x_iload (M := mX3_pairsAt) (pc := 17) dX3_pairsAt_17 rfl ?_
    refine x_aload_n (M := mX3_pairsAt) (pc := 19) dX3_pairsAt_19 rfl ?_
    refine x_get (M := mX3_pairsAt) (pc := 20) kcX3 9 rfl q2844 dX3_pairsAt_20 hM.1 rfl ?_
    refine x_val (M := mX3_pairsAt) (pc := 23) (hB.1) ?_
    first | with_reducible refine x_icmp_geN (M := mX3_pairsAt) (pc := 23) 51 dX3_pairsAt_23 (by decide) (by omega) (by omega) (fun c1 => ?_) (fun c1 => ?_) | refine x_icmp_ge (M := mX3_pairsAt) (pc := 23) 51 dX3_pairsAt_23 (by decide) (fun c1 => ?_) (fun c1 => ?_)
    · rw [show i + 1 + (n - (i + 1)) = n by omega]; exact hE
    · omega
  | succ q ih =>
    intro k hk
    refine x_iload (M := mX3_pairsAt) (pc := 17) dX3_pairsAt_17 rfl ?_
    refine x_aload_n (M := mX3_pairsAt) (pc := 19) dX3_pairsAt_19 rfl ?_
    refine x_get (M := mX3_pairsAt) (pc := 20) kcX3 9 rfl q2844 dX3_pairsAt_20 hM.1 rfl ?_
    refine x_val (M := mX3_pairsAt) (pc := 23) (hB.1) ?_
    first | with_reducible refine x_icmp_geN (M := mX3_pairsAt) (pc := 23) 51 dX3_pairsAt_23 (by decide) (by omega) (by omega) (fun c1 => ?_) (fun c1 => ?_) | refine x_icmp_ge (M := mX3_pairsAt) (pc := 23) 51 dX3_pairsAt_23 (by decide) (fun c1 => ?_) (fun c1 => ?_)
    · omega
    · refine x_iload_n (M := mX3_pairsAt) (pc := 26) dX3_pairsAt_26 rfl ?_
      refine x_joinV 43 (nI (if p_edge wi ly i (i + 1 + k) = some e then 1 else 0)) (fun J => ?_) ?_
      · refine x_aload_n (M := mX3_pairsAt) (pc := 27) dX3_pairsAt_27 rfl ?_
        refine x_iload_n (M := mX3_pairsAt) (pc := 28) dX3_pairsAt_28 rfl ?_
        refine x_iload (M := mX3_pairsAt) (pc := 29) dX3_pairsAt_29 rfl ?_
        refine x_V2 (M := mX3_pairsAt) (pc := 31) (M' := mX3_edgeOf) q3034 kVX3_edgeOf dX3_pairsAt_31 (m_edgeOf (d - 1) n wi ly hB i (i + 1 + k) hi (by omega) h hM) (hM.is) (fun v_ h hq_ => ?_)
        obtain ⟨hv_, rfl⟩ := hq_; cases hv_
        refine x_iload_n (M := mX3_pairsAt) (pc := 34) dX3_pairsAt_34 rfl ?_
        refine x_icmp_ne (M := mX3_pairsAt) (pc := 35) 42 dX3_pairsAt_35 (by decide) (fun r_c => ?_) (fun r_c => ?_)
        · refine x_iconst (M := mX3_pairsAt) (pc := 42) (v := nI 0) dX3_pairsAt_42 (by decide) ?_
          exact J _ (by rw [eI_inj (fun z hz => by have := p_edge_lt hz; omega) he] at r_c; simp [r_c])
        · refine x_iconst (M := mX3_pairsAt) (pc := 38) (v := nI 1) dX3_pairsAt_38 (by decide) ?_
          refine x_goto (M := mX3_pairsAt) (pc := 39) 43 dX3_pairsAt_39 (by decide) ?_
          exact J _ (by rw [eI_inj (fun z hz => by have := p_edge_lt hz; omega) he] at r_c; simp [r_c])
      first | with_reducible refine x_iaddN (M := mX3_pairsAt) (pc := 43) dX3_pairsAt_43 ?_ | refine x_iadd (M := mX3_pairsAt) (pc := 43) dX3_pairsAt_43 ?_
      refine x_istore2 (M := mX3_pairsAt) (pc := 44) dX3_pairsAt_44 ?_
      first | refine x_iinc4N (M := mX3_pairsAt) (pc := 45) (c := 1) dX3_pairsAt_45 oI1 ?_ | refine x_iinc4 (M := mX3_pairsAt) (pc := 45) (c := 1) dX3_pairsAt_45 (by decide) ?_
      refine x_goto (M := mX3_pairsAt) (pc := 48) 17 dX3_pairsAt_48 (by decide) ?_
      rw [Nat.add_assoc S]; exact ih (k + 1) (by omega)
theorem m_pairsAt_l2 (d n wi : Nat) (ly : Nat → Lay) (hB : BK I B n wi ly) (e : Nat) (he : e < 100) (hd : 1 ≤ d) (Q : xO → xH → Prop) (h : xH) (hM : MR g h m A I B wd)
    (hE : Q (.inl (some (.int (nI (p_prs wi ly n e))))) h) :
    ∀ q i, i + q = n → ∀ a4, X g l mX3_pairsAt d 0 0 Q 4 [some (.ref m), some (.int (nI e)), some (.int (nI (smN (fun i => smN (fun j => if p_edge wi ly i (i + 1 + j) = some e then 1 else 0) (n - (i + 1))) i))), some (.int (nI i)), a4] [] h 0 0 := by
  have b2 := hB.2.2.2.2.1
  intro q
  induction q with
  | zero =>
    intro i hi a4
    have : i = n := by omega
    subst this
    refine x_iload_n (M := mX3_pairsAt) (pc := 4) dX3_pairsAt_4 rfl ?_
    refine x_aload_n (M := mX3_pairsAt) (pc := 5) dX3_pairsAt_5 rfl ?_
    refine x_get (M := mX3_pairsAt) (pc := 6) kcX3 9 rfl q2844 dX3_pairsAt_6 hM.1 rfl ?_
    refine x_val (M := mX3_pairsAt) (pc := 9) (hB.1) ?_
    first | with_reducible refine x_icmp_geN (M := mX3_pairsAt) (pc := 9) 57 dX3_pairsAt_9 (by decide) (by omega) (by omega) (fun c1 => ?_) (fun c1 => ?_) | refine x_icmp_ge (M := mX3_pairsAt) (pc := 9) 57 dX3_pairsAt_9 (by decide) (fun c1 => ?_) (fun c1 => ?_)
    · refine x_iload_n (M := mX3_pairsAt) (pc := 57) dX3_pairsAt_57 rfl ?_
      exact x_iret (pc := 58) dX3_pairsAt_58 rfl (Nat.le_refl 0) (Nat.le_refl 0) hE
    · omega
  | succ q ih =>
    intro i hi a4
    refine x_iload_n (M := mX3_pairsAt) (pc := 4) dX3_pairsAt_4 rfl ?_
    refine x_aload_n (M := mX3_pairsAt) (pc := 5) dX3_pairsAt_5 rfl ?_
    refine x_get (M := mX3_pairsAt) (pc := 6) kcX3 9 rfl q2844 dX3_pairsAt_6 hM.1 rfl ?_
    refine x_val (M := mX3_pairsAt) (pc := 9) (hB.1) ?_
    first | with_reducible refine x_icmp_geN (M := mX3_pairsAt) (pc := 9) 57 dX3_pairsAt_9 (by decide) (by omega) (by omega) (fun c1 => ?_) (fun c1 => ?_) | refine x_icmp_ge (M := mX3_pairsAt) (pc := 9) 57 dX3_pairsAt_9 (by decide) (fun c1 => ?_) (fun c1 => ?_)
    · omega
    · refine x_iload_n (M := mX3_pairsAt) (pc := 12) dX3_pairsAt_12 rfl ?_
      refine x_iconst (M := mX3_pairsAt) (pc := 13) (v := nI 1) dX3_pairsAt_13 (by decide) ?_
      first | with_reducible refine x_iaddN (M := mX3_pairsAt) (pc := 14) dX3_pairsAt_14 ?_ | refine x_iadd (M := mX3_pairsAt) (pc := 14) dX3_pairsAt_14 ?_
      refine x_istore4 (M := mX3_pairsAt) (pc := 15) dX3_pairsAt_15 ?_
      refine m_pairsAt_l1 d n wi ly hB e i he (by omega) hd Q _ h hM ?_ (n - (i + 1)) 0 (by omega)
      first | refine x_iinc3N (M := mX3_pairsAt) (pc := 51) (c := 1) dX3_pairsAt_51 oI1 ?_ | refine x_iinc3 (M := mX3_pairsAt) (pc := 51) (c := 1) dX3_pairsAt_51 (by decide) ?_
      refine x_goto (M := mX3_pairsAt) (pc := 54) 4 dX3_pairsAt_54 (by decide) ?_
      exact ih (i + 1) (by omega) _
theorem m_pairsAt (d n wi : Nat) (ly : Nat → Lay) (hB : BK I B n wi ly) (e : Nat) (he : e < 100) (hd : 1 ≤ d) : MCr g l mX3_pairsAt d [.int (nI e)] m A I B wd (some (.int (nI (p_prs wi ly n e)))) := by
  intro h hM
  refine Ct.of [some (.ref m), some (.int (nI e)), none, none, none] (by decide +kernel) rfl (Nat.le_of_ble_eq_true rfl) rfl rfl ?_
  refine x_iconst (M := mX3_pairsAt) (pc := 0) (v := nI 0) dX3_pairsAt_0 (by decide) ?_
  refine x_istore2 (M := mX3_pairsAt) (pc := 1) dX3_pairsAt_1 ?_
  refine x_iconst (M := mX3_pairsAt) (pc := 2) (v := nI 0) dX3_pairsAt_2 (by decide) ?_
  refine x_istore3 (M := mX3_pairsAt) (pc := 3) dX3_pairsAt_3 ?_
  exact m_pairsAt_l2 d n wi ly hB e he hd _ h hM ⟨rfl, rfl⟩ n 0 (Nat.zero_add _) _
theorem BK.moved {I' : Nat → Int32} {B' : Nat → Nat → Int32} {n wi : Nat} {ly : Nat → Lay} (hB : BK I B n wi ly) (h9 : I' 9 = I 9) (h1 : B' 0 1 = B 0 1) (hj : ∀ j, 10 ≤ j → j ≤ 13 → B' j = B j) : BK I' B' n wi ly := by
  obtain ⟨a, b, c, e⟩ := hB
  refine ⟨h9.trans a, h1.trans b, fun t ht => ⟨?_, (c t ht).2⟩, e⟩
  have z := (c t ht).1
  unfold LYA at z ⊢
  rw [hj 10 (by omega) (by omega), hj 11 (by omega) (by omega), hj 12 (by omega) (by omega), hj 13 (by omega) (by omega)]
  exact z
theorem m_cut (d u : Nat) (hu : u ≤ 5) (hU : I 3 = nI u) (r : Bool) (hr : I 6 = bI r) (hd : 5 ≤ d) (hW : WF (B 0)) (x : Int32) : MC g l mX3_cut d [.int x] m A I B wd (ACT r u I B wd (c_cut (B 0) x)) := by
  intro h hM
  have hF : MF m A h h := MF.rf
  obtain ⟨h8, h8b⟩ := hW.2.2.1
  refine Ct.of [some (.ref m), some (.int x)] (by decide +kernel) rfl (Nat.le_of_ble_eq_true rfl) rfl rfl ?_
  refine x_iload_n (M := mX3_cut) (pc := 0) dX3_cut_0 rfl ?_
  refine x_i2l (M := mX3_cut) (pc := 1) dX3_cut_1 ?_
  refine x_lconst (M := mX3_cut) (pc := 2) (v := 0) dX3_cut_2 (by decide) ?_
  refine x_ldc2 (M := mX3_cut) (pc := 3) dX3_cut_3 q3022 ?_
  refine x_S3 (M := mX3_cut) (pc := 6) (M' := mX3_in) q2949 kSX3_in dX3_cut_6 (m_inB h x 0 3 0 3 (by decide) (by decide) (d - 1)) (fun v_ h hq_ => ?_)
  obtain ⟨hv_, rfl⟩ := hq_; cases hv_
  first | with_reducible refine x_ifB_ne (M := mX3_cut) (pc := 9) 14 dX3_cut_9 (by decide) (fun c9 => ?_) (fun c9 => ?_) | with_reducible refine x_if_neN (M := mX3_cut) (pc := 9) 14 dX3_cut_9 (by decide) (by omega) (fun c9 => ?_) (fun c9 => ?_) | refine x_if_ne (M := mX3_cut) (pc := 9) 14 dX3_cut_9 (by decide) (fun c9 => ?_) (fun c9 => ?_)
  rotate_left
  · refine x_iconst (M := mX3_cut) (pc := 12) (v := (-1)) dX3_cut_12 (by decide) ?_
    refine x_iret (M := mX3_cut) (pc := 13) dX3_cut_13 rfl (Nat.le_refl 0) (Nat.le_refl 0) ⟨_, _, _, _, rfl, ?_, hM, hF⟩
    exact act_err (by simp [c_cut, *]) LF.rf
  skip
  obtain ⟨n, rfl, -, hn⟩ := bIn_n (a := 0) (b := 3) (by omega) (by omega) c9
  have hcl : (nI n).toNatClampNeg = n := nI_clamp (by omega)
  refine x_aload_n (M := mX3_cut) (pc := 14) dX3_cut_14 rfl ?_
  refine x_V0 (M := mX3_cut) (pc := 15) (M' := mX3_isBooklet) q3023 kVX3_isBooklet dX3_cut_15 (m_isBooklet (d - 1) _ _ _ _ (by omega) hW.1 h hM) (hM.is) (fun v_ h hq_ => ?_)
  obtain ⟨v_, I_, B_, wd_, hv_, hQ, hM_, hF_⟩ := hq_
  cases hv_
  replace hF := hF.tr hF_
  replace hM := hM_
  clear hM_ hF_
  obtain ⟨rfl, hL, hY⟩ := hQ; have hB0 := hL.2.1 0 (by omega); have hI3 := (hL.1 3 (by omega) (by omega) (by omega)).trans hU; have hI6 := (hL.1 6 (by omega) (by omega) (by omega)).trans hr
  first | with_reducible refine x_ifB_eq (M := mX3_cut) (pc := 18) 35 dX3_cut_18 (by decide) (fun c18 => ?_) (fun c18 => ?_) | with_reducible refine x_if_eqN (M := mX3_cut) (pc := 18) 35 dX3_cut_18 (by decide) (by omega) (fun c18 => ?_) (fun c18 => ?_) | refine x_if_eq (M := mX3_cut) (pc := 18) 35 dX3_cut_18 (by decide) (fun c18 => ?_) (fun c18 => ?_)
  · refine x_bipush (M := mX3_cut) (pc := 35) (v := (-2)) dX3_cut_35 (by decide) ?_
    refine x_iret (M := mX3_cut) (pc := 37) dX3_cut_37 rfl (Nat.le_refl 0) (Nat.le_refl 0) ⟨_, _, _, _, rfl, ?_, hM, hF⟩
    exact act_err (by unfold c_cut; rw [if_neg (by rw [c9]; decide), if_pos (by rw [hcl]; first | exact Or.inl c18 | exact Or.inr c32)]) hL
  refine x_aload_n (M := mX3_cut) (pc := 21) dX3_cut_21 rfl ?_
  refine x_get (M := mX3_cut) (pc := 22) kcX3 0 rfl q2835 dX3_cut_22 hM.1 rfl ?_
  refine x_bipush (M := mX3_cut) (pc := 25) (v := nI 8) dX3_cut_25 (by decide) ?_
  refine xm_ialdV (M := mX3_cut) (pc := 27) hM dX3_cut_27 ((by rw [hB0]; exact h8 : _ = nI (zN (B 0) 8))) (by decide) (by first | decide | (simp only [mSz] <;> omega)) ?_
  refine x_iload_n (M := mX3_cut) (pc := 28) dX3_cut_28 rfl ?_
  refine x_S2 (M := mX3_cut) (pc := 29) (M' := mX3_has) q3027 kSX3_has dX3_cut_29 (m_has_n h (zN (B 0) 8) n (by omega) (by omega) (d - 1)) (fun v_ h hq_ => ?_)
  obtain ⟨hv_, rfl⟩ := hq_; cases hv_
  first | with_reducible refine x_ifB_eq (M := mX3_cut) (pc := 32) 38 dX3_cut_32 (by decide) (fun c32 => ?_) (fun c32 => ?_) | with_reducible refine x_if_eqN (M := mX3_cut) (pc := 32) 38 dX3_cut_32 (by decide) (by omega) (fun c32 => ?_) (fun c32 => ?_) | refine x_if_eq (M := mX3_cut) (pc := 32) 38 dX3_cut_32 (by decide) (fun c32 => ?_) (fun c32 => ?_)
  rotate_left
  · refine x_bipush (M := mX3_cut) (pc := 35) (v := (-2)) dX3_cut_35 (by decide) ?_
    refine x_iret (M := mX3_cut) (pc := 37) dX3_cut_37 rfl (Nat.le_refl 0) (Nat.le_refl 0) ⟨_, _, _, _, rfl, ?_, hM, hF⟩
    exact act_err (by unfold c_cut; rw [if_neg (by rw [c9]; decide), if_pos (by rw [hcl]; first | exact Or.inl c18 | exact Or.inr c32)]) hL
  skip
  have hbk := BK_of hW.1.2.2.2.2.1 hW.1.2.2.2.2.2 hY (of_decide_eq_true c18) (by rw [hB0]; exact hW.1.2.1)
  refine x_aload_n (M := mX3_cut) (pc := 38) dX3_cut_38 rfl ?_
  refine x_V0 (M := mX3_cut) (pc := 39) (M' := mX3_act) q2936 kVX3_act dX3_cut_39 (m_actR (d - 1) u hu hI3 r hI6 (by omega) h hM) (hM.is) (fun v_ h hq_ => ?_)
  obtain ⟨v_, I_, B_, wd_, hv_, hQ, hM_, hF_⟩ := hq_
  cases hv_
  replace hF := hF.tr hF_
  replace hM := hM_
  clear hM_ hF_
  obtain ⟨rfl, hR, hw⟩ := hQ; have hb0 := (hR.2.1 0 (by omega)).trans hB0
  refine x_aload_n (M := mX3_cut) (pc := 42) dX3_cut_42 rfl ?_
  refine x_get (M := mX3_cut) (pc := 43) kcX3 0 rfl q2835 dX3_cut_43 hM.1 rfl ?_
  refine x_bipush (M := mX3_cut) (pc := 46) (v := nI 8) dX3_cut_46 (by decide) ?_
  refine x_dup2 (M := mX3_cut) (pc := 48) dX3_cut_48 ?_
  refine xm_ialdV (M := mX3_cut) (pc := 49) hM dX3_cut_49 ((by rw [hb0]; exact h8 : _ = nI (zN (B 0) 8))) (by decide) (by first | decide | (simp only [mSz] <;> omega)) ?_
  refine x_iconst (M := mX3_cut) (pc := 50) (v := nI 1) dX3_cut_50 (by decide) ?_
  refine x_iload_n (M := mX3_cut) (pc := 51) dX3_cut_51 rfl ?_
  refine x_ishl (M := mX3_cut) (pc := 52) dX3_cut_52 ?_
  refine x_val (M := mX3_cut) (pc := 53) (nI_one n (by omega)) ?_
  refine x_ior (M := mX3_cut) (pc := 53) dX3_cut_53 ?_
  refine x_val (M := mX3_cut) (pc := 54) (nI_or _ _) ?_
  refine xm_iast (M := mX3_cut) (pc := 54) hM hF dX3_cut_54 (by decide) (by first | decide | (simp only [mSz] <;> omega)) (fun h hM hF => ?_)
  refine x_aload_n (M := mX3_cut) (pc := 55) dX3_cut_55 rfl ?_
  refine x_get (M := mX3_cut) (pc := 56) kcX3 0 rfl q2835 dX3_cut_56 hM.1 rfl ?_
  refine x_bipush (M := mX3_cut) (pc := 59) (v := nI 88) dX3_cut_59 (by decide) ?_
  refine x_dup2 (M := mX3_cut) (pc := 61) dX3_cut_61 ?_
  refine xm_iald (M := mX3_cut) (pc := 62) hM dX3_cut_62 (by decide) (by first | decide | (simp only [mSz] <;> omega)) ?_
  refine x_aload_n (M := mX3_cut) (pc := 63) dX3_cut_63 rfl ?_
  refine x_get (M := mX3_cut) (pc := 64) kcX3 9 rfl q2844 dX3_cut_64 hM.1 rfl ?_
  refine x_val (M := mX3_cut) (pc := 67) (((hR.1 9 (by omega)).trans hbk.1)) ?_
  first | with_reducible refine x_iaddN (M := mX3_cut) (pc := 67) dX3_cut_67 ?_ | refine x_iadd (M := mX3_cut) (pc := 67) dX3_cut_67 ?_
  refine xm_iast (M := mX3_cut) (pc := 68) hM hF dX3_cut_68 (by decide) (by first | decide | (simp only [mSz] <;> omega)) (fun h hM hF => ?_)
  skip
  obtain ⟨B2, ⟨hB2, hBj⟩, hM⟩ : ∃ B2 : Nat → Nat → Int32, (B2 0 = upd (upd (B 0) 8 (nI (zN (B 0) 8 ||| 2 ^ n))) 88 (B 0 88 + nI (zHi (B 0) * zWi (B 0))) ∧ ∀ j, j ≠ 0 → B2 j = B_ j) ∧ MR g h m A I_ B2 wd_ := ⟨_, ⟨by simp only [va_up_s, hb0]; rfl, fun j hj => by simp only [va_up_n _ _ hj]⟩, hM⟩
  have hbk2 := hbk.moved (B' := B2) (hR.1 9 (by omega)) (by rw [hB2, hB0]; rfl) (fun j h1 h2 => (hBj j (by omega)).trans (hR.2.1 j (by omega)))
  refine x_aload_n (M := mX3_cut) (pc := 69) dX3_cut_69 rfl ?_
  refine x_iload_n (M := mX3_cut) (pc := 70) dX3_cut_70 rfl ?_
  refine x_V1 (M := mX3_cut) (pc := 71) (M' := mX3_pairsAt) q3030 kVX3_pairsAt dX3_cut_71 (m_pairsAt (d - 1) _ _ _ hbk2 n (by omega) (by omega) h hM) (hM.is) (fun v_ h hq_ => ?_)
  obtain ⟨hv_, rfl⟩ := hq_; cases hv_
  refine x_iret (M := mX3_cut) (pc := 74) dX3_cut_74 rfl (Nat.le_refl 0) (Nat.le_refl 0) ⟨_, _, _, _, rfl, ?_, hM, hF⟩
  refine act_ok ?_ hL hR hw hB2 hBj
  unfold c_cut
  rw [if_neg (by rw [c9]; decide), if_neg (by rw [hcl, show zBook (B 0) = true from c18, c32]; decide), hcl]
  rfl
theorem m_staple (d u : Nat) (hu : u ≤ 5) (hU : I 3 = nI u) (r : Bool) (hr : I 6 = bI r) (hd : 5 ≤ d) (hW : WF (B 0)) (x : Int32) : MC g l mX3_staple d [.int x] m A I B wd (ACT r u I B wd (c_staple (B 0) x)) := by
  intro h hM
  have hF : MF m A h h := MF.rf
  obtain ⟨h9, h9b⟩ := hW.2.2.2.1
  obtain ⟨h10, h10a, h10b⟩ := hW.2.2.2.2.1
  refine Ct.of [some (.ref m), some (.int x)] (by decide +kernel) rfl (Nat.le_of_ble_eq_true rfl) rfl rfl ?_
  refine x_iload_n (M := mX3_staple) (pc := 0) dX3_staple_0 rfl ?_
  refine x_i2l (M := mX3_staple) (pc := 1) dX3_staple_1 ?_
  refine x_lconst (M := mX3_staple) (pc := 2) (v := 0) dX3_staple_2 (by decide) ?_
  refine x_ldc2 (M := mX3_staple) (pc := 3) dX3_staple_3 q3042 ?_
  refine x_S3 (M := mX3_staple) (pc := 6) (M' := mX3_in) q2949 kSX3_in dX3_staple_6 (m_inB h x 0 9 0 9 (by decide) (by decide) (d - 1)) (fun v_ h hq_ => ?_)
  obtain ⟨hv_, rfl⟩ := hq_; cases hv_
  first | with_reducible refine x_ifB_ne (M := mX3_staple) (pc := 9) 14 dX3_staple_9 (by decide) (fun c9 => ?_) (fun c9 => ?_) | with_reducible refine x_if_neN (M := mX3_staple) (pc := 9) 14 dX3_staple_9 (by decide) (by omega) (fun c9 => ?_) (fun c9 => ?_) | refine x_if_ne (M := mX3_staple) (pc := 9) 14 dX3_staple_9 (by decide) (fun c9 => ?_) (fun c9 => ?_)
  rotate_left
  · refine x_iconst (M := mX3_staple) (pc := 12) (v := (-1)) dX3_staple_12 (by decide) ?_
    refine x_iret (M := mX3_staple) (pc := 13) dX3_staple_13 rfl (Nat.le_refl 0) (Nat.le_refl 0) ⟨_, _, _, _, rfl, ?_, hM, hF⟩
    exact act_err (by simp [c_staple, *]) LF.rf
  skip
  obtain ⟨n, rfl, -, hn⟩ := bIn_n (a := 0) (b := 9) (by omega) (by omega) c9
  have hcl : (nI n).toNatClampNeg = n := nI_clamp (by omega)
  have ho := p_ones_le 16 (zN (B 0) 9)
  refine x_aload_n (M := mX3_staple) (pc := 14) dX3_staple_14 rfl ?_
  refine x_V0 (M := mX3_staple) (pc := 15) (M' := mX3_isBooklet) q3023 kVX3_isBooklet dX3_staple_15 (m_isBooklet (d - 1) _ _ _ _ (by omega) hW.1 h hM) (hM.is) (fun v_ h hq_ => ?_)
  obtain ⟨v_, I_, B_, wd_, hv_, hQ, hM_, hF_⟩ := hq_
  cases hv_
  replace hF := hF.tr hF_
  replace hM := hM_
  clear hM_ hF_
  obtain ⟨rfl, hL, hY⟩ := hQ; have hB0 := hL.2.1 0 (by omega); have hI3 := (hL.1 3 (by omega) (by omega) (by omega)).trans hU; have hI6 := (hL.1 6 (by omega) (by omega) (by omega)).trans hr
  first | with_reducible refine x_ifB_eq (M := mX3_staple) (pc := 18) 35 dX3_staple_18 (by decide) (fun c18 => ?_) (fun c18 => ?_) | with_reducible refine x_if_eqN (M := mX3_staple) (pc := 18) 35 dX3_staple_18 (by decide) (by omega) (fun c18 => ?_) (fun c18 => ?_) | refine x_if_eq (M := mX3_staple) (pc := 18) 35 dX3_staple_18 (by decide) (fun c18 => ?_) (fun c18 => ?_)
  · refine x_bipush (M := mX3_staple) (pc := 35) (v := (-2)) dX3_staple_35 (by decide) ?_
    refine x_iret (M := mX3_staple) (pc := 37) dX3_staple_37 rfl (Nat.le_refl 0) (Nat.le_refl 0) ⟨_, _, _, _, rfl, ?_, hM, hF⟩
    exact act_err (by unfold c_staple; rw [if_neg (by rw [c9]; decide), if_pos (by rw [hcl]; first | exact Or.inl c18 | exact Or.inr c32)]) hL
  refine x_aload_n (M := mX3_staple) (pc := 21) dX3_staple_21 rfl ?_
  refine x_get (M := mX3_staple) (pc := 22) kcX3 0 rfl q2835 dX3_staple_22 hM.1 rfl ?_
  refine x_bipush (M := mX3_staple) (pc := 25) (v := nI 9) dX3_staple_25 (by decide) ?_
  refine xm_ialdV (M := mX3_staple) (pc := 27) hM dX3_staple_27 ((by rw [hB0]; exact h9 : _ = nI (zN (B 0) 9))) (by decide) (by first | decide | (simp only [mSz] <;> omega)) ?_
  refine x_iload_n (M := mX3_staple) (pc := 28) dX3_staple_28 rfl ?_
  refine x_S2 (M := mX3_staple) (pc := 29) (M' := mX3_has) q3027 kSX3_has dX3_staple_29 (m_has_n h (zN (B 0) 9) n (by omega) (by omega) (d - 1)) (fun v_ h hq_ => ?_)
  obtain ⟨hv_, rfl⟩ := hq_; cases hv_
  first | with_reducible refine x_ifB_eq (M := mX3_staple) (pc := 32) 38 dX3_staple_32 (by decide) (fun c32 => ?_) (fun c32 => ?_) | with_reducible refine x_if_eqN (M := mX3_staple) (pc := 32) 38 dX3_staple_32 (by decide) (by omega) (fun c32 => ?_) (fun c32 => ?_) | refine x_if_eq (M := mX3_staple) (pc := 32) 38 dX3_staple_32 (by decide) (fun c32 => ?_) (fun c32 => ?_)
  rotate_left
  · refine x_bipush (M := mX3_staple) (pc := 35) (v := (-2)) dX3_staple_35 (by decide) ?_
    refine x_iret (M := mX3_staple) (pc := 37) dX3_staple_37 rfl (Nat.le_refl 0) (Nat.le_refl 0) ⟨_, _, _, _, rfl, ?_, hM, hF⟩
    exact act_err (by unfold c_staple; rw [if_neg (by rw [c9]; decide), if_pos (by rw [hcl]; first | exact Or.inl c18 | exact Or.inr c32)]) hL
  refine x_aload_n (M := mX3_staple) (pc := 38) dX3_staple_38 rfl ?_
  refine x_get (M := mX3_staple) (pc := 39) kcX3 0 rfl q2835 dX3_staple_39 hM.1 rfl ?_
  refine x_bipush (M := mX3_staple) (pc := 42) (v := nI 9) dX3_staple_42 (by decide) ?_
  refine xm_ialdV (M := mX3_staple) (pc := 44) hM dX3_staple_44 ((by rw [hB0]; exact h9 : _ = nI (zN (B 0) 9))) (by decide) (by first | decide | (simp only [mSz] <;> omega)) ?_
  refine x_S1 (M := mX3_staple) (pc := 45) (M' := mX3_ones) q3043 kSX3_ones dX3_staple_45 (m_ones h (zN (B 0) 9) (d - 1) (by omega)) (fun v_ h hq_ => ?_)
  obtain ⟨hv_, rfl⟩ := hq_; cases hv_
  refine x_iconst (M := mX3_staple) (pc := 48) (v := nI 3) dX3_staple_48 (by decide) ?_
  first | with_reducible refine x_icmp_neN (M := mX3_staple) (pc := 49) 55 dX3_staple_49 (by decide) (by omega) (by omega) (fun c49 => ?_) (fun c49 => ?_) | refine x_icmp_ne (M := mX3_staple) (pc := 49) 55 dX3_staple_49 (by decide) (fun c49 => ?_) (fun c49 => ?_)
  rotate_left
  · refine x_bipush (M := mX3_staple) (pc := 52) (v := (-3)) dX3_staple_52 (by decide) ?_
    refine x_iret (M := mX3_staple) (pc := 54) dX3_staple_54 rfl (Nat.le_refl 0) (Nat.le_refl 0) ⟨_, _, _, _, rfl, ?_, hM, hF⟩
    exact act_err (by unfold c_staple; rw [if_neg (by rw [c9]; decide), if_neg (by rw [hcl, show zBook (B 0) = true from c18, c32]; decide), if_pos c49]) hL
  skip
  have hbk := BK_of hW.1.2.2.2.2.1 hW.1.2.2.2.2.2 hY (of_decide_eq_true c18) (by rw [hB0]; exact hW.1.2.1)
  have hb16 := hbk.2.2.2.2.1
  refine x_aload_n (M := mX3_staple) (pc := 55) dX3_staple_55 rfl ?_
  refine x_V0 (M := mX3_staple) (pc := 56) (M' := mX3_act) q2936 kVX3_act dX3_staple_56 (m_actR (d - 1) u hu hI3 r hI6 (by omega) h hM) (hM.is) (fun v_ h hq_ => ?_)
  obtain ⟨v_, I_, B_, wd_, hv_, hQ, hM_, hF_⟩ := hq_
  cases hv_
  replace hF := hF.tr hF_
  replace hM := hM_
  clear hM_ hF_
  obtain ⟨rfl, hR, hw⟩ := hQ; have hb0 := (hR.2.1 0 (by omega)).trans hB0
  refine x_aload_n (M := mX3_staple) (pc := 59) dX3_staple_59 rfl ?_
  refine x_get (M := mX3_staple) (pc := 60) kcX3 0 rfl q2835 dX3_staple_60 hM.1 rfl ?_
  refine x_bipush (M := mX3_staple) (pc := 63) (v := nI 9) dX3_staple_63 (by decide) ?_
  refine x_dup2 (M := mX3_staple) (pc := 65) dX3_staple_65 ?_
  refine xm_ialdV (M := mX3_staple) (pc := 66) hM dX3_staple_66 ((by rw [hb0]; exact h9 : _ = nI (zN (B 0) 9))) (by decide) (by first | decide | (simp only [mSz] <;> omega)) ?_
  refine x_iconst (M := mX3_staple) (pc := 67) (v := nI 1) dX3_staple_67 (by decide) ?_
  refine x_iload_n (M := mX3_staple) (pc := 68) dX3_staple_68 rfl ?_
  refine x_ishl (M := mX3_staple) (pc := 69) dX3_staple_69 ?_
  refine x_val (M := mX3_staple) (pc := 70) (nI_one n (by omega)) ?_
  refine x_ior (M := mX3_staple) (pc := 70) dX3_staple_70 ?_
  refine x_val (M := mX3_staple) (pc := 71) (nI_or _ _) ?_
  refine xm_iast (M := mX3_staple) (pc := 71) hM hF dX3_staple_71 (by decide) (by first | decide | (simp only [mSz] <;> omega)) (fun h hM hF => ?_)
  refine x_aload_n (M := mX3_staple) (pc := 72) dX3_staple_72 rfl ?_
  refine x_get (M := mX3_staple) (pc := 73) kcX3 0 rfl q2835 dX3_staple_73 hM.1 rfl ?_
  refine x_bipush (M := mX3_staple) (pc := 76) (v := nI 89) dX3_staple_76 (by decide) ?_
  refine x_dup2 (M := mX3_staple) (pc := 78) dX3_staple_78 ?_
  refine xm_iald (M := mX3_staple) (pc := 79) hM dX3_staple_79 (by decide) (by first | decide | (simp only [mSz] <;> omega)) ?_
  refine x_iconst (M := mX3_staple) (pc := 80) (v := nI 3) dX3_staple_80 (by decide) ?_
  first | with_reducible refine x_iaddN (M := mX3_staple) (pc := 81) dX3_staple_81 ?_ | refine x_iadd (M := mX3_staple) (pc := 81) dX3_staple_81 ?_
  refine xm_iast (M := mX3_staple) (pc := 82) hM hF dX3_staple_82 (by decide) (by first | decide | (simp only [mSz] <;> omega)) (fun h hM hF => ?_)
  skip
  obtain ⟨B2, ⟨hB2, hBj⟩, hM⟩ : ∃ B2 : Nat → Nat → Int32, (B2 0 = upd (upd (B 0) 9 (nI (zN (B 0) 9 ||| 2 ^ n))) 89 (B 0 89 + 3) ∧ ∀ j, j ≠ 0 → B2 j = B_ j) ∧ MR g h m A I_ B2 wd_ := ⟨_, ⟨by simp only [va_up_s, hb0]; rfl, fun j hj => by simp only [va_up_n _ _ hj]⟩, hM⟩
  have hfin : c_staple (B 0) (nI n) = .inr (nI (min (zN (B 0) 10) (zHi (B 0) * zWi (B 0))), upd (upd (B 0) 9 (nI (zN (B 0) 9 ||| 2 ^ n))) 89 (B 0 89 + 3)) := by
    unfold c_staple
    rw [if_neg (by rw [c9]; decide), if_neg (by rw [hcl, show zBook (B 0) = true from c18, c32]; decide), if_neg c49, hcl]
  refine x_aload_n (M := mX3_staple) (pc := 83) dX3_staple_83 rfl ?_
  refine x_get (M := mX3_staple) (pc := 84) kcX3 0 rfl q2835 dX3_staple_84 hM.1 rfl ?_
  refine x_bipush (M := mX3_staple) (pc := 87) (v := nI 10) dX3_staple_87 (by decide) ?_
  refine xm_ialdV (M := mX3_staple) (pc := 89) hM dX3_staple_89 ((by rw [hB2]; exact h10 : _ = nI (zN (B 0) 10))) (by decide) (by first | decide | (simp only [mSz] <;> omega)) ?_
  refine x_aload_n (M := mX3_staple) (pc := 90) dX3_staple_90 rfl ?_
  refine x_get (M := mX3_staple) (pc := 91) kcX3 9 rfl q2844 dX3_staple_91 hM.1 rfl ?_
  refine x_val (M := mX3_staple) (pc := 94) (((hR.1 9 (by omega)).trans hbk.1)) ?_
  first | with_reducible refine x_icmp_geN (M := mX3_staple) (pc := 94) 107 dX3_staple_94 (by decide) (by omega) (by omega) (fun c94 => ?_) (fun c94 => ?_) | refine x_icmp_ge (M := mX3_staple) (pc := 94) 107 dX3_staple_94 (by decide) (fun c94 => ?_) (fun c94 => ?_)
  · refine x_aload_n (M := mX3_staple) (pc := 107) dX3_staple_107 rfl ?_
    refine x_get (M := mX3_staple) (pc := 108) kcX3 9 rfl q2844 dX3_staple_108 hM.1 rfl ?_
    refine x_val (M := mX3_staple) (pc := 111) (((hR.1 9 (by omega)).trans hbk.1)) ?_
    refine x_iret (M := mX3_staple) (pc := 111) dX3_staple_111 rfl (Nat.le_refl 0) (Nat.le_refl 0) ⟨_, _, _, _, rfl, ?_, hM, hF⟩
    exact act_ok (hfin.trans (by first | rw [Nat.min_eq_left (by omega)] | rw [Nat.min_eq_right (by omega)])) hL hR hw hB2 hBj
  · refine x_aload_n (M := mX3_staple) (pc := 97) dX3_staple_97 rfl ?_
    refine x_get (M := mX3_staple) (pc := 98) kcX3 0 rfl q2835 dX3_staple_98 hM.1 rfl ?_
    refine x_bipush (M := mX3_staple) (pc := 101) (v := nI 10) dX3_staple_101 (by decide) ?_
    refine xm_ialdV (M := mX3_staple) (pc := 103) hM dX3_staple_103 ((by rw [hB2]; exact h10 : _ = nI (zN (B 0) 10))) (by decide) (by first | decide | (simp only [mSz] <;> omega)) ?_
    refine x_goto (M := mX3_staple) (pc := 104) 111 dX3_staple_104 (by decide) ?_
    refine x_iret (M := mX3_staple) (pc := 111) dX3_staple_111 rfl (Nat.le_refl 0) (Nat.le_refl 0) ⟨_, _, _, _, rfl, ?_, hM, hF⟩
    exact act_ok (hfin.trans (by first | rw [Nat.min_eq_left (by omega)] | rw [Nat.min_eq_right (by omega)])) hL hR hw hB2 hBj
theorem m_unstaple (d u : Nat) (hu : u ≤ 5) (hU : I 3 = nI u) (r : Bool) (hr : I 6 = bI r) (hd : 2 ≤ d) (hW : WF (B 0)) (x : Int32) : MC g l mX3_unstaple d [.int x] m A I B wd (ACT r u I B wd (c_unstaple (B 0) x)) := by
  intro h hM
  have hF : MF m A h h := MF.rf
  obtain ⟨h9, h9b⟩ := hW.2.2.2.1
  refine Ct.of [some (.ref m), some (.int x)] (by decide +kernel) rfl (Nat.le_of_ble_eq_true rfl) rfl rfl ?_
  refine x_iload_n (M := mX3_unstaple) (pc := 0) dX3_unstaple_0 rfl ?_
  refine x_i2l (M := mX3_unstaple) (pc := 1) dX3_unstaple_1 ?_
  refine x_lconst (M := mX3_unstaple) (pc := 2) (v := 0) dX3_unstaple_2 (by decide) ?_
  refine x_ldc2 (M := mX3_unstaple) (pc := 3) dX3_unstaple_3 q3042 ?_
  refine x_S3 (M := mX3_unstaple) (pc := 6) (M' := mX3_in) q2949 kSX3_in dX3_unstaple_6 (m_inB h x 0 9 0 9 (by decide) (by decide) (d - 1)) (fun v_ h hq_ => ?_)
  obtain ⟨hv_, rfl⟩ := hq_; cases hv_
  first | with_reducible refine x_ifB_ne (M := mX3_unstaple) (pc := 9) 14 dX3_unstaple_9 (by decide) (fun c9 => ?_) (fun c9 => ?_) | with_reducible refine x_if_neN (M := mX3_unstaple) (pc := 9) 14 dX3_unstaple_9 (by decide) (by omega) (fun c9 => ?_) (fun c9 => ?_) | refine x_if_ne (M := mX3_unstaple) (pc := 9) 14 dX3_unstaple_9 (by decide) (fun c9 => ?_) (fun c9 => ?_)
  rotate_left
  · refine x_iconst (M := mX3_unstaple) (pc := 12) (v := (-1)) dX3_unstaple_12 (by decide) ?_
    refine x_iret (M := mX3_unstaple) (pc := 13) dX3_unstaple_13 rfl (Nat.le_refl 0) (Nat.le_refl 0) ⟨_, _, _, _, rfl, ?_, hM, hF⟩
    exact act_err (by simp [c_unstaple, *]) LF.rf
  skip
  obtain ⟨n, rfl, -, hn⟩ := bIn_n (a := 0) (b := 9) (by omega) (by omega) c9
  have hcl : (nI n).toNatClampNeg = n := nI_clamp (by omega)
  have hle := p_clr_le (zN (B 0) 9) n
  refine x_aload_n (M := mX3_unstaple) (pc := 14) dX3_unstaple_14 rfl ?_
  refine x_get (M := mX3_unstaple) (pc := 15) kcX3 0 rfl q2835 dX3_unstaple_15 hM.1 rfl ?_
  refine x_bipush (M := mX3_unstaple) (pc := 18) (v := nI 9) dX3_unstaple_18 (by decide) ?_
  refine xm_ialdV (M := mX3_unstaple) (pc := 20) hM dX3_unstaple_20 (h9) (by decide) (by first | decide | (simp only [mSz] <;> omega)) ?_
  refine x_iload_n (M := mX3_unstaple) (pc := 21) dX3_unstaple_21 rfl ?_
  refine x_S2 (M := mX3_unstaple) (pc := 22) (M' := mX3_has) q3027 kSX3_has dX3_unstaple_22 (m_has_n h (zN (B 0) 9) n (by omega) (by omega) (d - 1)) (fun v_ h hq_ => ?_)
  obtain ⟨hv_, rfl⟩ := hq_; cases hv_
  first | with_reducible refine x_ifB_ne (M := mX3_unstaple) (pc := 25) 31 dX3_unstaple_25 (by decide) (fun c25 => ?_) (fun c25 => ?_) | with_reducible refine x_if_neN (M := mX3_unstaple) (pc := 25) 31 dX3_unstaple_25 (by decide) (by omega) (fun c25 => ?_) (fun c25 => ?_) | refine x_if_ne (M := mX3_unstaple) (pc := 25) 31 dX3_unstaple_25 (by decide) (fun c25 => ?_) (fun c25 => ?_)
  rotate_left
  · refine x_bipush (M := mX3_unstaple) (pc := 28) (v := (-2)) dX3_unstaple_28 (by decide) ?_
    refine x_iret (M := mX3_unstaple) (pc := 30) dX3_unstaple_30 rfl (Nat.le_refl 0) (Nat.le_refl 0) ⟨_, _, _, _, rfl, ?_, hM, hF⟩
    exact act_err (by unfold c_unstaple; rw [if_neg (by rw [c9]; decide), if_pos (by rw [hcl]; exact c25)]) LF.rf
  refine x_aload_n (M := mX3_unstaple) (pc := 31) dX3_unstaple_31 rfl ?_
  refine x_V0 (M := mX3_unstaple) (pc := 32) (M' := mX3_act) q2936 kVX3_act dX3_unstaple_32 (m_actR (d - 1) u hu hU r hr (by omega) h hM) (hM.is) (fun v_ h hq_ => ?_)
  obtain ⟨v_, I_, B_, wd_, hv_, hQ, hM_, hF_⟩ := hq_
  cases hv_
  replace hF := hF.tr hF_
  replace hM := hM_
  clear hM_ hF_
  obtain ⟨rfl, hR, hw⟩ := hQ; have hb0 := hR.2.1 0 (by omega)
  refine x_aload_n (M := mX3_unstaple) (pc := 35) dX3_unstaple_35 rfl ?_
  refine x_get (M := mX3_unstaple) (pc := 36) kcX3 0 rfl q2835 dX3_unstaple_36 hM.1 rfl ?_
  refine x_bipush (M := mX3_unstaple) (pc := 39) (v := nI 9) dX3_unstaple_39 (by decide) ?_
  refine x_dup2 (M := mX3_unstaple) (pc := 41) dX3_unstaple_41 ?_
  refine xm_ialdV (M := mX3_unstaple) (pc := 42) hM dX3_unstaple_42 ((by rw [hb0]; exact h9 : _ = nI (zN (B 0) 9))) (by decide) (by first | decide | (simp only [mSz] <;> omega)) ?_
  refine x_iconst (M := mX3_unstaple) (pc := 43) (v := nI 1) dX3_unstaple_43 (by decide) ?_
  refine x_iload_n (M := mX3_unstaple) (pc := 44) dX3_unstaple_44 rfl ?_
  refine x_ishl (M := mX3_unstaple) (pc := 45) dX3_unstaple_45 ?_
  refine x_val (M := mX3_unstaple) (pc := 46) (nI_one n (by omega)) ?_
  refine x_iconst (M := mX3_unstaple) (pc := 46) (v := (-1)) dX3_unstaple_46 (by decide) ?_
  refine x_ixor (M := mX3_unstaple) (pc := 47) dX3_unstaple_47 ?_
  refine x_iand (M := mX3_unstaple) (pc := 48) dX3_unstaple_48 ?_
  refine x_val (M := mX3_unstaple) (pc := 49) (nI_clr h9b (by omega)) ?_
  refine xm_iast (M := mX3_unstaple) (pc := 49) hM hF dX3_unstaple_49 (by decide) (by first | decide | (simp only [mSz] <;> omega)) (fun h hM hF => ?_)
  refine x_aload_n (M := mX3_unstaple) (pc := 50) dX3_unstaple_50 rfl ?_
  refine x_get (M := mX3_unstaple) (pc := 51) kcX3 0 rfl q2835 dX3_unstaple_51 hM.1 rfl ?_
  refine x_bipush (M := mX3_unstaple) (pc := 54) (v := nI 89) dX3_unstaple_54 (by decide) ?_
  refine x_dup2 (M := mX3_unstaple) (pc := 56) dX3_unstaple_56 ?_
  refine xm_iald (M := mX3_unstaple) (pc := 57) hM dX3_unstaple_57 (by decide) (by first | decide | (simp only [mSz] <;> omega)) ?_
  refine x_iconst (M := mX3_unstaple) (pc := 58) (v := nI 1) dX3_unstaple_58 (by decide) ?_
  first | with_reducible refine x_iaddN (M := mX3_unstaple) (pc := 59) dX3_unstaple_59 ?_ | refine x_iadd (M := mX3_unstaple) (pc := 59) dX3_unstaple_59 ?_
  refine xm_iast (M := mX3_unstaple) (pc := 60) hM hF dX3_unstaple_60 (by decide) (by first | decide | (simp only [mSz] <;> omega)) (fun h hM hF => ?_)
  refine x_aload_n (M := mX3_unstaple) (pc := 61) dX3_unstaple_61 rfl ?_
  refine x_get (M := mX3_unstaple) (pc := 62) kcX3 0 rfl q2835 dX3_unstaple_62 hM.1 rfl ?_
  refine x_bipush (M := mX3_unstaple) (pc := 65) (v := nI 9) dX3_unstaple_65 (by decide) ?_
  refine xm_ialdV (M := mX3_unstaple) (pc := 67) hM dX3_unstaple_67 ((by simp [va_up, upd] : _ = nI (p_clr (zN (B 0) 9) n))) (by decide) (by first | decide | (simp only [mSz] <;> omega)) ?_
  refine x_S1 (M := mX3_unstaple) (pc := 68) (M' := mX3_ones) q3043 kSX3_ones dX3_unstaple_68 (m_ones h (p_clr (zN (B 0) 9) n) (d - 1) (by omega)) (fun v_ h hq_ => ?_)
  obtain ⟨hv_, rfl⟩ := hq_; cases hv_
  refine x_iret (M := mX3_unstaple) (pc := 71) dX3_unstaple_71 rfl (Nat.le_refl 0) (Nat.le_refl 0) ⟨_, _, _, _, rfl, ?_, hM, hF⟩
  refine act_ok (s' := upd (upd (B 0) 9 (nI (p_clr (zN (B 0) 9) n))) 89 (B 0 89 + 1)) ?_ LF.rf hR hw (by simp only [va_up_s, hb0]; rfl) (fun j hj => by simp only [va_up_n _ _ hj])
  unfold c_unstaple
  rw [if_neg (by rw [c9]; decide), if_neg (by rw [hcl, c25]; decide), hcl]
theorem m_printAll_l (d n wi : Nat) (ly : Nat → Lay) (sp : Nat) (hs2 : sp < 2) (hd : 1 ≤ d) (s : Row) (hs : s 7 = nI sp) (B1 : Nat → Nat → Int32) (hB : BK I B1 n wi ly) (h10 : B1 0 = s) (Q : xO → xH → Prop) (h0 : xH) (v1 : Int32)
    (hE : ∀ h, MR g h m A I (va_up B1 0 (p_prA ly sp s (2 * n)).1) wd → MF m A h0 h → Q (.inl (some (.int (p_prA ly sp s (2 * n)).2))) h) :
    ∀ q k, k + q = 2 * n → ∀ h, MR g h m A I (va_up B1 0 (p_prA ly sp s k).1) wd → MF m A h0 h → X g l mX3_printAll d 0 0 Q 37 [some (.ref m), some (.int v1), some (.int (p_prA ly sp s k).2), some (.int (nI k))] [] h 0 0 := by
  have b2 := hB.2.2.2.2.1
  have hlow : ∀ k j, j < 87 → (p_prA ly sp s k).1 j = s j := by
    intro k
    induction k with
    | zero => intro j _; rfl
    | succ k ih =>
      intro j hj
      show p_prS _ _ _ _ j = s j
      simp only [p_prS, upd]
      rw [if_neg (by omega), if_neg (by omega), if_neg (by omega)]
      exact ih j hj
  intro q
  induction q with
  | zero =>
    intro k hk h hM hF
    have : k = 2 * n := by omega
    subst this
    refine x_iload_n (M := mX3_printAll) (pc := 37) dX3_printAll_37 rfl ?_
    refine x_iconst (M := mX3_printAll) (pc := 38) (v := nI 2) dX3_printAll_38 (by decide) ?_
    refine x_aload_n (M := mX3_printAll) (pc := 39) dX3_printAll_39 rfl ?_
    refine x_get (M := mX3_printAll) (pc := 40) kcX3 9 rfl q2844 dX3_printAll_40 hM.1 rfl ?_
    refine x_val (M := mX3_printAll) (pc := 43) (hB.1) ?_
    first | with_reducible refine x_imulN (M := mX3_printAll) (pc := 43) dX3_printAll_43 ?_ | refine x_imul (M := mX3_printAll) (pc := 43) dX3_printAll_43 ?_
    first | with_reducible refine x_icmp_geN (M := mX3_printAll) (pc := 44) 71 dX3_printAll_44 (by decide) (by omega) (by omega) (fun c1 => ?_) (fun c1 => ?_) | refine x_icmp_ge (M := mX3_printAll) (pc := 44) 71 dX3_printAll_44 (by decide) (fun c1 => ?_) (fun c1 => ?_)
    · refine x_iload_n (M := mX3_printAll) (pc := 71) dX3_printAll_71 rfl ?_
      exact x_iret (pc := 72) dX3_printAll_72 rfl (Nat.le_refl 0) (Nat.le_refl 0) (hE h hM hF)
    · omega
  | succ q ih =>
    intro k hk h hM hF
    have hbk : BK I (va_up B1 0 (p_prA ly sp s k).1) n wi ly := hB.moved rfl (by rw [va_up_s, hlow k 1 (by omega), h10]) (fun j h1 h2 => by rw [va_up_n _ _ (by omega)])
    have hsp : (va_up B1 0 (p_prA ly sp s k).1) 0 7 = nI sp := by rw [va_up_s, hlow k 7 (by omega)]; exact hs
    have hl3 := (hB.2.2.1 (k / 2) (by omega)).2
    have hsd : p_sd ly k < 32 := by unfold p_sd; have := Bool.toNat_le (p_side (ly (k / 2)) != decide (k % 2 = 1)); omega
    refine x_iload_n (M := mX3_printAll) (pc := 37) dX3_printAll_37 rfl ?_
    refine x_iconst (M := mX3_printAll) (pc := 38) (v := nI 2) dX3_printAll_38 (by decide) ?_
    refine x_aload_n (M := mX3_printAll) (pc := 39) dX3_printAll_39 rfl ?_
    refine x_get (M := mX3_printAll) (pc := 40) kcX3 9 rfl q2844 dX3_printAll_40 hM.1 rfl ?_
    refine x_val (M := mX3_printAll) (pc := 43) (hB.1) ?_
    first | with_reducible refine x_imulN (M := mX3_printAll) (pc := 43) dX3_printAll_43 ?_ | refine x_imul (M := mX3_printAll) (pc := 43) dX3_printAll_43 ?_
    first | with_reducible refine x_icmp_geN (M := mX3_printAll) (pc := 44) 71 dX3_printAll_44 (by decide) (by omega) (by omega) (fun c1 => ?_) (fun c1 => ?_) | refine x_icmp_ge (M := mX3_printAll) (pc := 44) 71 dX3_printAll_44 (by decide) (fun c1 => ?_) (fun c1 => ?_)
    · omega
    · refine x_iload_n (M := mX3_printAll) (pc := 47) dX3_printAll_47 rfl ?_
      refine x_aload_n (M := mX3_printAll) (pc := 48) dX3_printAll_48 rfl ?_
      refine x_aload_n (M := mX3_printAll) (pc := 49) dX3_printAll_49 rfl ?_
      refine x_iload_n (M := mX3_printAll) (pc := 50) dX3_printAll_50 rfl ?_
      refine x_V1 (M := mX3_printAll) (pc := 51) (M' := mX3_sideOf) q3010 kVX3_sideOf dX3_printAll_51 (m_sideOf (d - 1) n wi ly hbk k (by omega) h hM) (hM.is) (fun v_ h hq_ => ?_)
      obtain ⟨hv_, rfl⟩ := hq_; cases hv_
      refine x_iload_n (M := mX3_printAll) (pc := 54) dX3_printAll_54 rfl ?_
      refine x_aload_n (M := mX3_printAll) (pc := 55) dX3_printAll_55 rfl ?_
      refine x_iload_n (M := mX3_printAll) (pc := 56) dX3_printAll_56 rfl ?_
      refine x_V1 (M := mX3_printAll) (pc := 57) (M' := mX3_turnOf) q3014 kVX3_turnOf dX3_printAll_57 (m_turnOf (d - 1) n wi ly hbk sp hsp hs2 k (by omega) h hM) (hM.is) (fun v_ h hq_ => ?_)
      obtain ⟨hv_, rfl⟩ := hq_; cases hv_
      refine x_V3 (M := mX3_printAll) (pc := 60) (M' := mX3_printOn) q2994 kVX3_printOn dX3_printAll_60 (m_printOn (d - 1) (p_sd ly k) hsd (nI k) (bI (p_tn ly sp k)) h hM) (hM.is) (fun v_ h hq_ => ?_)
      obtain ⟨v_, I_, B_, wd_, hv_, hQ, hM_, hF_⟩ := hq_
      cases hv_
      replace hF := hF.tr hF_
      replace hM := hM_
      clear hM_ hF_
      obtain ⟨e1_, e2_, e3_, e4_⟩ := hQ; rw [e2_, e3_, e4_] at hM; subst e1_; clear e2_ e3_ e4_; rw [va_up_s, bx_uu] at hM; rw [va_up_s]
      first | with_reducible refine x_iaddN (M := mX3_printAll) (pc := 63) dX3_printAll_63 ?_ | refine x_iadd (M := mX3_printAll) (pc := 63) dX3_printAll_63 ?_
      refine x_istore2 (M := mX3_printAll) (pc := 64) dX3_printAll_64 ?_
      first | refine x_iinc3N (M := mX3_printAll) (pc := 65) (c := 1) dX3_printAll_65 oI1 ?_ | refine x_iinc3 (M := mX3_printAll) (pc := 65) (c := 1) dX3_printAll_65 (by decide) ?_
      refine x_goto (M := mX3_printAll) (pc := 68) 37 dX3_printAll_68 (by decide) ?_
      exact ih (k + 1) (by omega) h hM hF
theorem m_printAll (d u : Nat) (hu : u ≤ 5) (hU : I 3 = nI u) (r : Bool) (hr : I 6 = bI r) (hd : 4 ≤ d) (hW : WF (B 0)) (x : Int32) : MC g l mX3_printAll d [.int x] m A I B wd (ACT r u I B wd (c_printAll (B 0) x)) := by
  intro h hM
  have hF : MF m A h h := MF.rf
  have hn := p_cans_le hW.1.2.2.2.2.1 hW.1.2.2.2.2.2
  obtain ⟨h7, h7b⟩ := hW.2.1
  have h2 : B 0 2 = nI (zNf (B 0)) := hW.1.2.2.1
  refine Ct.of [some (.ref m), some (.int x), none, none] (by decide +kernel) rfl (Nat.le_of_ble_eq_true rfl) rfl rfl ?_
  refine x_aload_n (M := mX3_printAll) (pc := 0) dX3_printAll_0 rfl ?_
  refine x_iload_n (M := mX3_printAll) (pc := 1) dX3_printAll_1 rfl ?_
  refine x_V1 (M := mX3_printAll) (pc := 2) (M' := mX3_layBy) q3002 kVX3_layBy dX3_printAll_2 (m_layBy (d - 1) _ _ x (by omega) hW.1.2.2.2.2.1 hW.1.1 hW.1.2.1 h hM) (hM.is) (fun v_ h hq_ => ?_)
  obtain ⟨v_, I_, B_, wd_, hv_, hQ, hM_, hF_⟩ := hq_
  cases hv_
  replace hF := hF.tr hF_
  replace hM := hM_
  clear hM_ hF_
  obtain ⟨rfl, hL, hY⟩ := hQ; have hB0 := hL.2.1 0 (by omega); have hI3 := (hL.1 3 (by omega) (by omega) (by omega)).trans hU; have hI6 := (hL.1 6 (by omega) (by omega) (by omega)).trans hr
  first | with_reducible refine x_ifB_ne (M := mX3_printAll) (pc := 5) 10 dX3_printAll_5 (by decide) (fun c5 => ?_) (fun c5 => ?_) | with_reducible refine x_if_neN (M := mX3_printAll) (pc := 5) 10 dX3_printAll_5 (by decide) (by omega) (fun c5 => ?_) (fun c5 => ?_) | refine x_if_ne (M := mX3_printAll) (pc := 5) 10 dX3_printAll_5 (by decide) (fun c5 => ?_) (fun c5 => ?_)
  rotate_left
  · refine x_iconst (M := mX3_printAll) (pc := 8) (v := (-1)) dX3_printAll_8 (by decide) ?_
    refine x_iret (M := mX3_printAll) (pc := 9) dX3_printAll_9 rfl (Nat.le_refl 0) (Nat.le_refl 0) ⟨_, _, _, _, rfl, ?_, hM, hF⟩
    exact act_err (by simp [c_printAll, c5]) hL
  refine x_aload_n (M := mX3_printAll) (pc := 10) dX3_printAll_10 rfl ?_
  refine x_get (M := mX3_printAll) (pc := 11) kcX3 0 rfl q2835 dX3_printAll_11 hM.1 rfl ?_
  refine x_iconst (M := mX3_printAll) (pc := 14) (v := nI 2) dX3_printAll_14 (by decide) ?_
  refine xm_ialdV (M := mX3_printAll) (pc := 15) hM dX3_printAll_15 ((by rw [hB0]; exact h2 : _ = nI (zNf (B 0)))) (by decide) (by first | decide | (simp only [mSz] <;> omega)) ?_
  first | with_reducible refine x_if_gtN (M := mX3_printAll) (pc := 16) 26 dX3_printAll_16 (by decide) (by omega) (fun c16 => ?_) (fun c16 => ?_) | refine x_if_gt (M := mX3_printAll) (pc := 16) 26 dX3_printAll_16 (by decide) (fun c16 => ?_) (fun c16 => ?_)
  · refine x_bipush (M := mX3_printAll) (pc := 26) (v := (-2)) dX3_printAll_26 (by decide) ?_
    refine x_iret (M := mX3_printAll) (pc := 28) dX3_printAll_28 rfl (Nat.le_refl 0) (Nat.le_refl 0) ⟨_, _, _, _, rfl, ?_, hM, hF⟩
    exact act_err (by unfold c_printAll; rw [if_neg (by rw [c5]; decide), if_pos (by first | exact Or.inl c16 | exact Or.inr (by rw [hB0] at c23; exact c23))]) hL
  refine x_aload_n (M := mX3_printAll) (pc := 19) dX3_printAll_19 rfl ?_
  refine x_V0 (M := mX3_printAll) (pc := 20) (M' := mX3_isHeld) q2972 kVX3_isHeld dX3_printAll_20 (m_isHeld (d - 1) h hM) (hM.is) (fun v_ h hq_ => ?_)
  obtain ⟨v_, I_, B_, wd_, hv_, hQ, hM_, hF_⟩ := hq_
  cases hv_
  replace hF := hF.tr hF_
  replace hM := hM_
  clear hM_ hF_
  obtain ⟨e1_, e2_, e3_, e4_⟩ := hQ; rw [e2_, e3_, e4_] at hM; subst e1_; clear e2_ e3_ e4_
  first | with_reducible refine x_ifB_eq (M := mX3_printAll) (pc := 23) 29 dX3_printAll_23 (by decide) (fun c23 => ?_) (fun c23 => ?_) | with_reducible refine x_if_eqN (M := mX3_printAll) (pc := 23) 29 dX3_printAll_23 (by decide) (by omega) (fun c23 => ?_) (fun c23 => ?_) | refine x_if_eq (M := mX3_printAll) (pc := 23) 29 dX3_printAll_23 (by decide) (fun c23 => ?_) (fun c23 => ?_)
  rotate_left
  · refine x_bipush (M := mX3_printAll) (pc := 26) (v := (-2)) dX3_printAll_26 (by decide) ?_
    refine x_iret (M := mX3_printAll) (pc := 28) dX3_printAll_28 rfl (Nat.le_refl 0) (Nat.le_refl 0) ⟨_, _, _, _, rfl, ?_, hM, hF⟩
    exact act_err (by unfold c_printAll; rw [if_neg (by rw [c5]; decide), if_pos (by first | exact Or.inl c16 | exact Or.inr (by rw [hB0] at c23; exact c23))]) hL
  skip
  rw [hB0] at c23
  have hrow := c5
  have h0x : 0 ≤ x := by
    unfold p_isRowI at hrow
    rw [Bool.and_eq_true] at hrow
    exact of_decide_eq_true hrow.1
  have hrow2 : p_isRow (zHi (B 0)) (zWi (B 0)) x.toNatClampNeg = true := by
    unfold p_isRowI at hrow
    rw [Bool.and_eq_true] at hrow
    exact hrow.2
  unfold p_isRow at hrow2
  rw [Bool.and_eq_true, Bool.and_eq_true] at hrow2
  have hbk := BK_of hW.1.2.2.2.2.1 hrow2.1.2 (hY c5) (of_decide_eq_true hrow2.2) (by rw [hB0]; exact hW.1.2.1)
  refine x_aload_n (M := mX3_printAll) (pc := 29) dX3_printAll_29 rfl ?_
  refine x_V0 (M := mX3_printAll) (pc := 30) (M' := mX3_act) q2936 kVX3_act dX3_printAll_30 (m_actR (d - 1) u hu hI3 r hI6 (by omega) h hM) (hM.is) (fun v_ h hq_ => ?_)
  obtain ⟨v_, I_, B_, wd_, hv_, hQ, hM_, hF_⟩ := hq_
  cases hv_
  replace hF := hF.tr hF_
  replace hM := hM_
  clear hM_ hF_
  obtain ⟨rfl, hR, hw⟩ := hQ; have hb0 := (hR.2.1 0 (by omega)).trans hB0
  refine x_iconst (M := mX3_printAll) (pc := 33) (v := nI 0) dX3_printAll_33 (by decide) ?_
  refine x_istore2 (M := mX3_printAll) (pc := 34) dX3_printAll_34 ?_
  refine x_iconst (M := mX3_printAll) (pc := 35) (v := nI 0) dX3_printAll_35 (by decide) ?_
  refine x_istore3 (M := mX3_printAll) (pc := 36) dX3_printAll_36 ?_
  skip
  have hbk2 := hbk.moved (B' := B_) (hR.1 9 (by omega)) (by rw [hR.2.1 0 (by omega)]) (fun j h1 h2 => hR.2.1 j (by omega))
  refine m_printAll_l d _ _ _ (zN (B 0) 7) h7b (by omega) (B 0) h7 B_ hbk2 hb0 _ _ x (fun h hM hF => ⟨_, _, _, _, rfl, act_ok ?_ hL hR hw (va_up_s _ _ _) (fun j hj => by simp only [va_up_n _ _ hj]), hM, hF⟩) _ 0 (Nat.zero_add _) h (hM.up0 0 fun t => by rw [hb0]; rfl) hF
  unfold c_printAll
  rw [if_neg (by rw [c5]; decide), if_neg (by rw [show zHeld (B 0) = false from c23]; simp; omega)]
  rfl
end MODELC

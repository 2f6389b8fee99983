section MODELL
set_option maxRecDepth 100000
def p_ixF (s : Row) : Nat → Nat → Nat → Option (Nat × Nat)
  | 0, _, _ => none
  | q + 1, sub, left => match p_pby s sub (zN s 37) with
    | none => p_ixF s q (sub + 1) left
    | some p => if left = 0 then some (sub, p) else p_ixF s q (sub + 1) (left - 1)
def q_ixA (y : Int32) : Option (Nat × Nat) → Int32
  | none => -9
  | some (sub, p) => if y = 0 then nI sub else nI p
def q_index (s : Row) (x y : Int32) : Int32 := if zBook s = false then -2 else if x < 0 ∨ bIn y 0 1 = false then -1 else q_ixA y (p_ixF s 100 0 x.toNatClampNeg)
variable {g : xG} {l : Launch} {m : Nat} {A : Nat → Nat} {I : Nat → Int32} {B : Nat → Nat → Int32} {wd : Int64}
theorem m_index_l (d : Nat) (hd : 1 ≤ d) (s : Row) (h16 : zN16 s ≤ 16) (hW : WF s) (hN : NT I B s (zO s) (zOm s)) (hfl : ∀ t, t < zN s 37 → B 30 t = eI (zFL s t)) (x0 : Int32) (y : Int32) (h : xH) (hM : MR g h m A I B wd) (Q : xO → xH → Prop) :
    ∀ q sub, sub + q = 100 → ∀ left, left < 2 ^ 31 → ∀ a5, Q (.inl (some (.int (q_ixA y (p_ixF s q sub left))))) h → X g l mX3_index d 0 0 Q 35 [some (.ref m), some (.int x0), some (.int y), some (.int (nI left)), some (.int (nI sub)), a5] [] h 0 0 := by
  intro q
  induction q with
  | zero =>
    intro sub hs left hl a5 hE
    refine x_iload (M := mX3_index) (pc := 35) dX3_index_35 rfl ?_
    refine x_bipush (M := mX3_index) (pc := 37) (v := nI 100) dX3_index_37 (by decide) ?_
    first | with_reducible refine x_icmp_geN (M := mX3_index) (pc := 39) 90 dX3_index_39 (by decide) (by omega) (by omega) (fun c1 => ?_) (fun c1 => ?_) | refine x_icmp_ge (M := mX3_index) (pc := 39) 90 dX3_index_39 (by decide) (fun c1 => ?_) (fun c1 => ?_)
    · refine x_bipush (M := mX3_index) (pc := 90) (v := (-9)) dX3_index_90 (by decide) ?_
      exact x_iret (pc := 92) dX3_index_92 rfl (Nat.le_refl 0) (Nat.le_refl 0) hE
    · omega
  | succ q ih =>
    intro sub hs left hl a5 hE
    refine x_iload (M := mX3_index) (pc := 35) dX3_index_35 rfl ?_
    refine x_bipush (M := mX3_index) (pc := 37) (v := nI 100) dX3_index_37 (by decide) ?_
    first | with_reducible refine x_icmp_geN (M := mX3_index) (pc := 39) 90 dX3_index_39 (by decide) (by omega) (by omega) (fun c1 => ?_) (fun c1 => ?_) | refine x_icmp_ge (M := mX3_index) (pc := 39) 90 dX3_index_39 (by decide) (fun c1 => ?_) (fun c1 => ?_)
    · omega
    refine x_aload_n (M := mX3_index) (pc := 42) dX3_index_42 rfl ?_
    refine x_iload (M := mX3_index) (pc := 43) dX3_index_43 rfl ?_
    refine x_V1 (M := mX3_index) (pc := 45) (M' := mX3_pageBy) q3279 kVX3_pageBy dX3_index_45 (m_pageBy (d - 1) s h16 hW hN hfl sub (by omega) h hM) (hM.is) (fun v_ h hq_ => ?_)
    obtain ⟨hv_, rfl⟩ := hq_
    cases hv_
    rw [p_ixF] at hE
    cases hp : p_pby s sub (zN s 37) with
    | none =>
      rw [hp] at hE
      refine x_val (M := mX3_index) (pc := 48) (w := -1) rfl ?_
      refine x_istore5 (M := mX3_index) (pc := 48) dX3_index_48 ?_
      refine x_iload (M := mX3_index) (pc := 50) dX3_index_50 rfl ?_
      first | refine x_if_lt (M := mX3_index) (pc := 52) 71 dX3_index_52 (by decide) (fun c52 => ?_) (fun c52 => ?_)
      · refine x_iload_n (M := mX3_index) (pc := 71) dX3_index_71 rfl ?_
        refine x_iload (M := mX3_index) (pc := 72) dX3_index_72 rfl ?_
        first | refine x_if_lt (M := mX3_index) (pc := 74) 81 dX3_index_74 (by decide) (fun c74 => ?_) (fun c74 => ?_)
        · refine x_iconst (M := mX3_index) (pc := 81) (v := nI 0) dX3_index_81 (by decide) ?_
          first | with_reducible refine x_isubN (M := mX3_index) (pc := 82) dX3_index_82 (by omega) ?_ | refine x_isub (M := mX3_index) (pc := 82) dX3_index_82 ?_
          refine x_istore3 (M := mX3_index) (pc := 83) dX3_index_83 ?_
          first | refine x_iinc4N (M := mX3_index) (pc := 84) (c := 1) dX3_index_84 oI1 ?_ | refine x_iinc4 (M := mX3_index) (pc := 84) (c := 1) dX3_index_84 (by decide) ?_
          refine x_goto (M := mX3_index) (pc := 87) 35 dX3_index_87 (by decide) ?_
          exact ih (sub + 1) (by omega) _ hl _ hE
        · exact absurd (by decide) c74
      · exact absurd (by decide) c52
    | some p =>
      rw [hp] at hE
      have hp32 := p_pby_lt h16 _ _ hp
      refine x_val (M := mX3_index) (pc := 48) (w := nI p) rfl ?_
      refine x_istore5 (M := mX3_index) (pc := 48) dX3_index_48 ?_
      refine x_iload (M := mX3_index) (pc := 50) dX3_index_50 rfl ?_
      first | refine x_if_lt (M := mX3_index) (pc := 52) 71 dX3_index_52 (by decide) (fun c52 => ?_) (fun c52 => ?_)
      · exact absurd c52 (nI_pos (by omega))
      · refine x_iload_n (M := mX3_index) (pc := 55) dX3_index_55 rfl ?_
        first | with_reducible refine x_ifB_ne (M := mX3_index) (pc := 56) 71 dX3_index_56 (by decide) (fun c56 => ?_) (fun c56 => ?_) | with_reducible refine x_if_neN (M := mX3_index) (pc := 56) 71 dX3_index_56 (by decide) (by omega) (fun c56 => ?_) (fun c56 => ?_) | refine x_if_ne (M := mX3_index) (pc := 56) 71 dX3_index_56 (by decide) (fun c56 => ?_) (fun c56 => ?_)
        · refine x_iload_n (M := mX3_index) (pc := 71) dX3_index_71 rfl ?_
          refine x_iload (M := mX3_index) (pc := 72) dX3_index_72 rfl ?_
          first | refine x_if_lt (M := mX3_index) (pc := 74) 81 dX3_index_74 (by decide) (fun c74 => ?_) (fun c74 => ?_)
          · exact absurd c74 (nI_pos (by omega))
          · refine x_iconst (M := mX3_index) (pc := 77) (v := nI 1) dX3_index_77 (by decide) ?_
            refine x_goto (M := mX3_index) (pc := 78) 82 dX3_index_78 (by decide) ?_
            first | with_reducible refine x_isubN (M := mX3_index) (pc := 82) dX3_index_82 (by omega) ?_ | refine x_isub (M := mX3_index) (pc := 82) dX3_index_82 ?_
            refine x_istore3 (M := mX3_index) (pc := 83) dX3_index_83 ?_
            first | refine x_iinc4N (M := mX3_index) (pc := 84) (c := 1) dX3_index_84 oI1 ?_ | refine x_iinc4 (M := mX3_index) (pc := 84) (c := 1) dX3_index_84 (by decide) ?_
            refine x_goto (M := mX3_index) (pc := 87) 35 dX3_index_87 (by decide) ?_
            simp only at hE; rw [if_neg (by omega)] at hE; exact ih (sub + 1) (by omega) _ (by omega) _ hE
        · refine x_iload_n (M := mX3_index) (pc := 59) dX3_index_59 rfl ?_
          refine x_if_ne (M := mX3_index) (pc := 60) 68 dX3_index_60 (by decide) (fun r_1 => ?_) (fun r_1 => ?_)
          · refine x_iload (M := mX3_index) (pc := 68) dX3_index_68 rfl ?_
            simp only at hE; rw [if_pos (by omega), q_ixA] at hE; first | (rw [if_pos r_1] at hE; exact x_iret (pc := 70) dX3_index_70 rfl (Nat.le_refl 0) (Nat.le_refl 0) hE) | (rw [if_neg r_1] at hE; exact x_iret (pc := 70) dX3_index_70 rfl (Nat.le_refl 0) (Nat.le_refl 0) hE)
          · refine x_iload (M := mX3_index) (pc := 63) dX3_index_63 rfl ?_
            refine x_goto (M := mX3_index) (pc := 65) 70 dX3_index_65 (by decide) ?_
            simp only at hE; rw [if_pos (by omega), q_ixA] at hE; first | (rw [if_pos r_1] at hE; exact x_iret (pc := 70) dX3_index_70 rfl (Nat.le_refl 0) (Nat.le_refl 0) hE) | (rw [if_neg r_1] at hE; exact x_iret (pc := 70) dX3_index_70 rfl (Nat.le_refl 0) (Nat.le_refl 0) hE)
theorem m_index (d : Nat) (hd : 5 ≤ d) (hW : WF (B 0)) (x y : Int32) : MC g l mX3_index d [.int x, .int y] m A I B wd (QF I B (q_index (B 0) x y)) := by
  intro h hM
  have hF : MF m A h h := MF.rf
  refine Ct.of [some (.ref m), some (.int x), some (.int y), none, none, none] (by decide +kernel) rfl (Nat.le_of_ble_eq_true rfl) rfl rfl ?_
  refine x_aload_n (M := mX3_index) (pc := 0) dX3_index_0 rfl ?_
  refine x_V0 (M := mX3_index) (pc := 1) (M' := mX3_isBooklet) q3023 kVX3_isBooklet dX3_index_1 (m_isBooklet (d - 1) _ _ _ _ (by omega) hW.1 h hM) (hM.is) (fun v_ h hq_ => ?_)
  obtain ⟨v_, I_, B_, wd_, hv_, hQ, hM_, hF_⟩ := hq_
  cases hv_
  replace hF := hF.tr hF_
  replace hM := hM_
  clear hM_ hF_
  obtain ⟨rfl, hL, hY⟩ := hQ
  first | with_reducible refine x_ifB_ne (M := mX3_index) (pc := 4) 10 dX3_index_4 (by decide) (fun c4 => ?_) (fun c4 => ?_) | with_reducible refine x_if_neN (M := mX3_index) (pc := 4) 10 dX3_index_4 (by decide) (by omega) (fun c4 => ?_) (fun c4 => ?_) | refine x_if_ne (M := mX3_index) (pc := 4) 10 dX3_index_4 (by decide) (fun c4 => ?_) (fun c4 => ?_)
  rotate_left
  · refine x_bipush (M := mX3_index) (pc := 7) (v := (-2)) dX3_index_7 (by decide) ?_
    refine x_iret (M := mX3_index) (pc := 9) dX3_index_9 rfl (Nat.le_refl 0) (Nat.le_refl 0) ⟨_, _, _, _, rfl, ?_, hM, hF⟩
    exact QF.lf (by rw [q_index, if_pos (show zBook (B 0) = false from c4)]) hL
  skip
  have hB := BW_now rfl hW c4 hL hY
  have b2 := hB.1.2.2.2.2.1
  have hbt : ¬ zBook (B 0) = false := by rw [show zBook (B 0) = true from c4]; decide
  refine x_iload_n (M := mX3_index) (pc := 10) dX3_index_10 rfl ?_
  refine x_if_lt (M := mX3_index) (pc := 11) 24 dX3_index_11 (by decide) (fun r_1 => ?_) (fun r_1 => ?_)
  · refine x_iconst (M := mX3_index) (pc := 24) (v := (-1)) dX3_index_24 (by decide) ?_
    refine x_iret (M := mX3_index) (pc := 25) dX3_index_25 rfl (Nat.le_refl 0) (Nat.le_refl 0) ⟨_, _, _, _, rfl, ?_, hM, hF⟩
    exact QF.lf (by rw [q_index, if_neg hbt, if_pos (by first | exact Or.inl r_1 | exact Or.inr c21)]) hL
  refine x_iload_n (M := mX3_index) (pc := 14) dX3_index_14 rfl ?_
  refine x_i2l (M := mX3_index) (pc := 15) dX3_index_15 ?_
  refine x_lconst (M := mX3_index) (pc := 16) (v := 0) dX3_index_16 (by decide) ?_
  refine x_lconst (M := mX3_index) (pc := 17) (v := 1) dX3_index_17 (by decide) ?_
  refine x_S3 (M := mX3_index) (pc := 18) (M' := mX3_in) q2949 kSX3_in dX3_index_18 (m_inB h y 0 1 0 1 (by decide) (by decide) (d - 1)) (fun v_ h hq_ => ?_)
  obtain ⟨hv_, rfl⟩ := hq_; cases hv_
  first | with_reducible refine x_ifB_ne (M := mX3_index) (pc := 21) 26 dX3_index_21 (by decide) (fun c21 => ?_) (fun c21 => ?_) | with_reducible refine x_if_neN (M := mX3_index) (pc := 21) 26 dX3_index_21 (by decide) (by omega) (fun c21 => ?_) (fun c21 => ?_) | refine x_if_ne (M := mX3_index) (pc := 21) 26 dX3_index_21 (by decide) (fun c21 => ?_) (fun c21 => ?_)
  rotate_left
  · refine x_iconst (M := mX3_index) (pc := 24) (v := (-1)) dX3_index_24 (by decide) ?_
    refine x_iret (M := mX3_index) (pc := 25) dX3_index_25 rfl (Nat.le_refl 0) (Nat.le_refl 0) ⟨_, _, _, _, rfl, ?_, hM, hF⟩
    exact QF.lf (by rw [q_index, if_neg hbt, if_pos (by first | exact Or.inl r_1 | exact Or.inr c21)]) hL
  skip
  obtain ⟨n, hn, rfl⟩ := nI_of r_1
  refine x_aload_n (M := mX3_index) (pc := 26) dX3_index_26 rfl ?_
  refine x_V0 (M := mX3_index) (pc := 27) (M' := mX3_layNotes) q3225 kVX3_layNotes dX3_index_27 (m_layNotes (d - 1) (by omega) (B 0) hB hW h hM) (hM.is) (fun v_ h hq_ => ?_)
  obtain ⟨v_, I_, B_, wd_, hv_, hQ, hM_, hF_⟩ := hq_
  cases hv_
  replace hF := hF.tr hF_
  replace hM := hM_
  clear hM_ hF_
  obtain ⟨rfl, -, hi, hb, hN, hfl⟩ := hQ
  refine x_iload_n (M := mX3_index) (pc := 30) dX3_index_30 rfl ?_
  refine x_istore3 (M := mX3_index) (pc := 31) dX3_index_31 ?_
  refine x_iconst (M := mX3_index) (pc := 32) (v := nI 0) dX3_index_32 (by decide) ?_
  refine x_istore4 (M := mX3_index) (pc := 33) dX3_index_33 ?_
  refine m_index_l d (by omega) (B 0) b2 hW hN hfl _ y h hM _ 100 0 rfl n hn _ ⟨_, _, _, _, rfl, QF.nt ?_ hL hi hb, hM, hF⟩
  rw [q_index, if_neg hbt, if_neg (show ¬ (nI n < 0 ∨ bIn y 0 1 = false) from fun z => z.elim r_1 (fun z => by rw [z] at c21; cases c21)), nI_clamp hn]
end MODELL

section MODELG
set_option maxRecDepth 100000
variable {g : xG} {l : Launch} {m : Nat} {A : Nat → Nat} {I : Nat → Int32} {B : Nat → Nat → Int32} {wd : Int64}
theorem see_ix (s : Row) (ly : Nat → Lay) (k : Nat) : allN (zSee1 s ly) (k + 1) = (allN (zSee1 s ly) k && (decide (s (90 + p_sd ly (zN s (13 + 3 * k))) = s (13 + 3 * k + 1)) && ((p_tn ly (zN s 7) (zN s (13 + 3 * k)) == zTu s (p_sd ly (zN s (13 + 3 * k)))) == decide (s (13 + 3 * k + 2) = 0)))) := by
  rw [show 13 + 3 * k + 1 = 14 + 3 * k by omega, show 13 + 3 * k + 2 = 15 + 3 * k by omega]; rfl
theorem see_t1 {p q : Prop} [Decidable p] [Decidable q] {U : Bool} (a : p) (b : ¬ q) (c : bI U = nI 0) : (true && (decide p && (U == decide q))) = true := by cases U; simp [a, b]; exact absurd c (by decide)
theorem see_t2 {p q : Prop} [Decidable p] [Decidable q] {U : Bool} (a : p) (b : q) (c : bI U = nI 1) : (true && (decide p && (U == decide q))) = true := by cases U; exact absurd c (by decide); simp [a, b]
theorem see_f1 {p : Prop} [Decidable p] {U : Bool} (a : ¬ p) : (true && (decide p && U)) = false := by simp [a]
theorem see_f2 {p q : Prop} [Decidable p] [Decidable q] {U : Bool} (a : p) (b : ¬ q) (c : ¬ bI U = nI 0) : (true && (decide p && (U == decide q))) = false := by cases U; exact absurd (by decide) c; simp [a, b]
theorem see_f3 {p q : Prop} [Decidable p] [Decidable q] {U : Bool} (a : p) (b : q) (c : ¬ bI U = nI 1) : (true && (decide p && (U == decide q))) = false := by cases U; simp [a, b]; exact absurd (by decide) c
theorem m_isSeen_l (d : Nat) (hd : 3 ≤ d) (s : Row) (ly : Nat → Lay) (hB : BW I B s ly) (hW : WF s) (h : xH) (hM : MR g h m A I B wd) (Q : xO → xH → Prop) (hE : Q (.inl (some (.int (bI (zSeen s ly))))) h) : ∀ q k, k + q = zN s 12 → ∀ a3, X g l mX3_isSeen d 0 0 Q 4 [some (.ref m), some (.int (bI (allN (zSee1 s ly) k))), some (.int (nI k)), a3] [] h 0 0 := by
  have b2 := hB.1.2.2.2.2.1
  obtain ⟨h12, h12b⟩ := hW.2.2.2.2.2.2.1
  have hs7 : B 0 7 = nI (zN s 7) := by rw [hB.2]; exact hW.2.1.1
  have hB0 := hB.2
  intro q
  induction q with
  | zero =>
    intro k hk a3
    have : k = zN s 12 := by omega
    subst this
    refine x_iload_n (M := mX3_isSeen) (pc := 4) dX3_isSeen_4 rfl ?_
    refine x_aload_n (M := mX3_isSeen) (pc := 5) dX3_isSeen_5 rfl ?_
    refine x_get (M := mX3_isSeen) (pc := 6) kcX3 0 rfl q2835 dX3_isSeen_6 hM.1 rfl ?_
    refine x_bipush (M := mX3_isSeen) (pc := 9) (v := nI 12) dX3_isSeen_9 (by decide) ?_
    refine xm_ialdV (M := mX3_isSeen) (pc := 11) hM dX3_isSeen_11 ((by rw [hB0]; exact h12 : _ = nI (zN s 12))) (by decide) (by first | decide | (simp only [mSz] <;> omega)) ?_
    first | with_reducible refine x_icmp_geN (M := mX3_isSeen) (pc := 12) 88 dX3_isSeen_12 (by decide) (by omega) (by omega) (fun c1 => ?_) (fun c1 => ?_) | refine x_icmp_ge (M := mX3_isSeen) (pc := 12) 88 dX3_isSeen_12 (by decide) (fun c1 => ?_) (fun c1 => ?_)
    · refine x_iload_n (M := mX3_isSeen) (pc := 88) dX3_isSeen_88 rfl ?_
      exact x_zret (pc := 89) dX3_isSeen_89 rfl (bI_01 _) (Nat.le_refl 0) (Nat.le_refl 0) hE
    · omega
  | succ q ih =>
    intro k hk a3
    obtain ⟨⟨e1, e1b⟩, ⟨e2, e2b⟩, ⟨e3, e3b⟩⟩ := hW.2.2.2.2.2.2.2.1 k (by omega)
    have hpg : zN s (13 + 3 * k) < 2 * zN16 s := e1b
    refine x_iload_n (M := mX3_isSeen) (pc := 4) dX3_isSeen_4 rfl ?_
    refine x_aload_n (M := mX3_isSeen) (pc := 5) dX3_isSeen_5 rfl ?_
    refine x_get (M := mX3_isSeen) (pc := 6) kcX3 0 rfl q2835 dX3_isSeen_6 hM.1 rfl ?_
    refine x_bipush (M := mX3_isSeen) (pc := 9) (v := nI 12) dX3_isSeen_9 (by decide) ?_
    refine xm_ialdV (M := mX3_isSeen) (pc := 11) hM dX3_isSeen_11 ((by rw [hB0]; exact h12 : _ = nI (zN s 12))) (by decide) (by first | decide | (simp only [mSz] <;> omega)) ?_
    first | with_reducible refine x_icmp_geN (M := mX3_isSeen) (pc := 12) 88 dX3_isSeen_12 (by decide) (by omega) (by omega) (fun c1 => ?_) (fun c1 => ?_) | refine x_icmp_ge (M := mX3_isSeen) (pc := 12) 88 dX3_isSeen_12 (by decide) (fun c1 => ?_) (fun c1 => ?_)
    · omega
    have hal : allN (zSee1 s ly) (k + 1) = (allN (zSee1 s ly) k && zSee1 s ly k) := rfl
    refine x_bipush (M := mX3_isSeen) (pc := 15) (v := nI 13) dX3_isSeen_15 (by decide) ?_
    refine x_iconst (M := mX3_isSeen) (pc := 17) (v := nI 3) dX3_isSeen_17 (by decide) ?_
    refine x_iload_n (M := mX3_isSeen) (pc := 18) dX3_isSeen_18 rfl ?_
    first | with_reducible refine x_imulN (M := mX3_isSeen) (pc := 19) dX3_isSeen_19 ?_ | refine x_imul (M := mX3_isSeen) (pc := 19) dX3_isSeen_19 ?_
    first | with_reducible refine x_iaddN (M := mX3_isSeen) (pc := 20) dX3_isSeen_20 ?_ | refine x_iadd (M := mX3_isSeen) (pc := 20) dX3_isSeen_20 ?_
    refine x_istore3 (M := mX3_isSeen) (pc := 21) dX3_isSeen_21 ?_
    refine x_joinB 81 (allN (zSee1 s ly) (k + 1)) (fun J => ?_) ?_
    · refine x_iload_n (M := mX3_isSeen) (pc := 22) dX3_isSeen_22 rfl ?_
      first | with_reducible refine x_ifB_eq (M := mX3_isSeen) (pc := 23) 80 dX3_isSeen_23 (by decide) (fun c23 => ?_) (fun c23 => ?_) | with_reducible refine x_if_eqN (M := mX3_isSeen) (pc := 23) 80 dX3_isSeen_23 (by decide) (by omega) (fun c23 => ?_) (fun c23 => ?_) | refine x_if_eq (M := mX3_isSeen) (pc := 23) 80 dX3_isSeen_23 (by decide) (fun c23 => ?_) (fun c23 => ?_)
      · refine x_iconst (M := mX3_isSeen) (pc := 80) (v := nI 0) dX3_isSeen_80 (by decide) ?_
        first | exact J false (by rw [see_ix, c23]; rfl) | exact J false (by rw [see_ix, c23]; rw [hB0] at r_1; exact (see_f1 r_1).symm) | exact J true (by rw [see_ix, c23]; rw [hB0] at r_1 r_2; exact (see_t1 r_1 r_2 r_3).symm) | exact J true (by rw [see_ix, c23]; rw [hB0] at r_1 r_2; exact (see_t2 r_1 r_2 r_3).symm) | exact J false (by rw [see_ix, c23]; rw [hB0] at r_1 r_2; exact (see_f2 r_1 r_2 r_3).symm) | exact J false (by rw [see_ix, c23]; rw [hB0] at r_1 r_2; exact (see_f3 r_1 r_2 r_3).symm)
      · refine x_aload_n (M := mX3_isSeen) (pc := 26) dX3_isSeen_26 rfl ?_
        refine x_aload_n (M := mX3_isSeen) (pc := 27) dX3_isSeen_27 rfl ?_
        refine x_get (M := mX3_isSeen) (pc := 28) kcX3 0 rfl q2835 dX3_isSeen_28 hM.1 rfl ?_
        refine x_iload_n (M := mX3_isSeen) (pc := 31) dX3_isSeen_31 rfl ?_
        refine xm_ialdV (M := mX3_isSeen) (pc := 32) hM dX3_isSeen_32 ((by rw [hB0]; exact e1 : _ = nI (zN s (13 + 3 * k)))) (by decide) (by first | decide | (simp only [mSz] <;> omega)) ?_
        refine x_V1 (M := mX3_isSeen) (pc := 33) (M' := mX3_printedOn) q3217 kVX3_printedOn dX3_isSeen_33 (m_printedOn (d - 1) _ _ ly hB.1 (zN s (13 + 3 * k)) hpg (by omega) h hM) (hM.is) (fun v_ h hq_ => ?_)
        obtain ⟨hv_, rfl⟩ := hq_; cases hv_
        refine x_aload_n (M := mX3_isSeen) (pc := 36) dX3_isSeen_36 rfl ?_
        refine x_get (M := mX3_isSeen) (pc := 37) kcX3 0 rfl q2835 dX3_isSeen_37 hM.1 rfl ?_
        refine x_iload_n (M := mX3_isSeen) (pc := 40) dX3_isSeen_40 rfl ?_
        refine x_iconst (M := mX3_isSeen) (pc := 41) (v := nI 1) dX3_isSeen_41 (by decide) ?_
        first | with_reducible refine x_iaddN (M := mX3_isSeen) (pc := 42) dX3_isSeen_42 ?_ | refine x_iadd (M := mX3_isSeen) (pc := 42) dX3_isSeen_42 ?_
        refine xm_iald (M := mX3_isSeen) (pc := 43) hM dX3_isSeen_43 (by decide) (by first | decide | (simp only [mSz] <;> omega)) ?_
        refine x_icmp_ne (M := mX3_isSeen) (pc := 44) 80 dX3_isSeen_44 (by decide) (fun r_1 => ?_) (fun r_1 => ?_)
        · refine x_iconst (M := mX3_isSeen) (pc := 80) (v := nI 0) dX3_isSeen_80 (by decide) ?_
          first | exact J false (by rw [see_ix, c23]; rfl) | exact J false (by rw [see_ix, c23]; rw [hB0] at r_1; exact (see_f1 r_1).symm) | exact J true (by rw [see_ix, c23]; rw [hB0] at r_1 r_2; exact (see_t1 r_1 r_2 r_3).symm) | exact J true (by rw [see_ix, c23]; rw [hB0] at r_1 r_2; exact (see_t2 r_1 r_2 r_3).symm) | exact J false (by rw [see_ix, c23]; rw [hB0] at r_1 r_2; exact (see_f2 r_1 r_2 r_3).symm) | exact J false (by rw [see_ix, c23]; rw [hB0] at r_1 r_2; exact (see_f3 r_1 r_2 r_3).symm)
        · refine x_aload_n (M := mX3_isSeen) (pc := 47) dX3_isSeen_47 rfl ?_
          refine x_aload_n (M := mX3_isSeen) (pc := 48) dX3_isSeen_48 rfl ?_
          refine x_get (M := mX3_isSeen) (pc := 49) kcX3 0 rfl q2835 dX3_isSeen_49 hM.1 rfl ?_
          refine x_iload_n (M := mX3_isSeen) (pc := 52) dX3_isSeen_52 rfl ?_
          refine xm_ialdV (M := mX3_isSeen) (pc := 53) hM dX3_isSeen_53 ((by rw [hB0]; exact e1 : _ = nI (zN s (13 + 3 * k)))) (by decide) (by first | decide | (simp only [mSz] <;> omega)) ?_
          refine x_V1 (M := mX3_isSeen) (pc := 54) (M' := mX3_isUpright) q3197 kVX3_isUpright dX3_isSeen_54 (m_isUpright (d - 1) _ _ ly hB.1 (zN s 7) hs7 hW.2.1.2 (zTu s) (by rw [hB0]; exact fun k hk => (hW.2.2.2.2.2.2.2.2.2.2 k hk).2) (zN s (13 + 3 * k)) hpg (by omega) h hM) (hM.is) (fun v_ h hq_ => ?_)
          obtain ⟨hv_, rfl⟩ := hq_; cases hv_
          refine x_aload_n (M := mX3_isSeen) (pc := 57) dX3_isSeen_57 rfl ?_
          refine x_get (M := mX3_isSeen) (pc := 58) kcX3 0 rfl q2835 dX3_isSeen_58 hM.1 rfl ?_
          refine x_iload_n (M := mX3_isSeen) (pc := 61) dX3_isSeen_61 rfl ?_
          refine x_iconst (M := mX3_isSeen) (pc := 62) (v := nI 2) dX3_isSeen_62 (by decide) ?_
          first | with_reducible refine x_iaddN (M := mX3_isSeen) (pc := 63) dX3_isSeen_63 ?_ | refine x_iadd (M := mX3_isSeen) (pc := 63) dX3_isSeen_63 ?_
          refine xm_iald (M := mX3_isSeen) (pc := 64) hM dX3_isSeen_64 (by decide) (by first | decide | (simp only [mSz] <;> omega)) ?_
          refine x_if_ne (M := mX3_isSeen) (pc := 65) 72 dX3_isSeen_65 (by decide) (fun r_2 => ?_) (fun r_2 => ?_)
          · refine x_iconst (M := mX3_isSeen) (pc := 72) (v := nI 0) dX3_isSeen_72 (by decide) ?_
            refine x_icmp_ne (M := mX3_isSeen) (pc := 73) 80 dX3_isSeen_73 (by decide) (fun r_3 => ?_) (fun r_3 => ?_)
            · refine x_iconst (M := mX3_isSeen) (pc := 80) (v := nI 0) dX3_isSeen_80 (by decide) ?_
              first | exact J false (by rw [see_ix, c23]; rfl) | exact J false (by rw [see_ix, c23]; rw [hB0] at r_1; exact (see_f1 r_1).symm) | exact J true (by rw [see_ix, c23]; rw [hB0] at r_1 r_2; exact (see_t1 r_1 r_2 r_3).symm) | exact J true (by rw [see_ix, c23]; rw [hB0] at r_1 r_2; exact (see_t2 r_1 r_2 r_3).symm) | exact J false (by rw [see_ix, c23]; rw [hB0] at r_1 r_2; exact (see_f2 r_1 r_2 r_3).symm) | exact J false (by rw [see_ix, c23]; rw [hB0] at r_1 r_2; exact (see_f3 r_1 r_2 r_3).symm)
            · refine x_iconst (M := mX3_isSeen) (pc := 76) (v := nI 1) dX3_isSeen_76 (by decide) ?_
              refine x_goto (M := mX3_isSeen) (pc := 77) 81 dX3_isSeen_77 (by decide) ?_
              first | exact J false (by rw [see_ix, c23]; rfl) | exact J false (by rw [see_ix, c23]; rw [hB0] at r_1; exact (see_f1 r_1).symm) | exact J true (by rw [see_ix, c23]; rw [hB0] at r_1 r_2; exact (see_t1 r_1 r_2 r_3).symm) | exact J true (by rw [see_ix, c23]; rw [hB0] at r_1 r_2; exact (see_t2 r_1 r_2 r_3).symm) | exact J false (by rw [see_ix, c23]; rw [hB0] at r_1 r_2; exact (see_f2 r_1 r_2 r_3).symm) | exact J false (by rw [see_ix, c23]; rw [hB0] at r_1 r_2; exact (see_f3 r_1 r_2 r_3).symm)
          · refine x_iconst (M := mX3_isSeen) (pc := 68) (v := nI 1) dX3_isSeen_68 (by decide) ?_
            refine x_goto (M := mX3_isSeen) (pc := 69) 73 dX3_isSeen_69 (by decide) ?_
            refine x_icmp_ne (M := mX3_isSeen) (pc := 73) 80 dX3_isSeen_73 (by decide) (fun r_3 => ?_) (fun r_3 => ?_)
            · refine x_iconst (M := mX3_isSeen) (pc := 80) (v := nI 0) dX3_isSeen_80 (by decide) ?_
              first | exact J false (by rw [see_ix, c23]; rfl) | exact J false (by rw [see_ix, c23]; rw [hB0] at r_1; exact (see_f1 r_1).symm) | exact J true (by rw [see_ix, c23]; rw [hB0] at r_1 r_2; exact (see_t1 r_1 r_2 r_3).symm) | exact J true (by rw [see_ix, c23]; rw [hB0] at r_1 r_2; exact (see_t2 r_1 r_2 r_3).symm) | exact J false (by rw [see_ix, c23]; rw [hB0] at r_1 r_2; exact (see_f2 r_1 r_2 r_3).symm) | exact J false (by rw [see_ix, c23]; rw [hB0] at r_1 r_2; exact (see_f3 r_1 r_2 r_3).symm)
            · refine x_iconst (M := mX3_isSeen) (pc := 76) (v := nI 1) dX3_isSeen_76 (by decide) ?_
              refine x_goto (M := mX3_isSeen) (pc := 77) 81 dX3_isSeen_77 (by decide) ?_
              first | exact J false (by rw [see_ix, c23]; rfl) | exact J false (by rw [see_ix, c23]; rw [hB0] at r_1; exact (see_f1 r_1).symm) | exact J true (by rw [see_ix, c23]; rw [hB0] at r_1 r_2; exact (see_t1 r_1 r_2 r_3).symm) | exact J true (by rw [see_ix, c23]; rw [hB0] at r_1 r_2; exact (see_t2 r_1 r_2 r_3).symm) | exact J false (by rw [see_ix, c23]; rw [hB0] at r_1 r_2; exact (see_f2 r_1 r_2 r_3).symm) | exact J false (by rw [see_ix, c23]; rw [hB0] at r_1 r_2; exact (see_f3 r_1 r_2 r_3).symm)
    refine x_istore1 (M := mX3_isSeen) (pc := 81) dX3_isSeen_81 ?_
    first | refine x_iinc2N (M := mX3_isSeen) (pc := 82) (c := 1) dX3_isSeen_82 oI1 ?_ | refine x_iinc2 (M := mX3_isSeen) (pc := 82) (c := 1) dX3_isSeen_82 (by decide) ?_
    refine x_goto (M := mX3_isSeen) (pc := 85) 4 dX3_isSeen_85 (by decide) ?_
    exact ih (k + 1) (by omega) _
theorem m_isSeen (d : Nat) (hd : 3 ≤ d) (s : Row) (ly : Nat → Lay) (hB : BW I B s ly) (hW : WF s) : MCr g l mX3_isSeen d [] m A I B wd (some (.int (bI (zSeen s ly)))) := by
  intro h hM
  refine Ct.of [some (.ref m), none, none, none] (by decide +kernel) rfl (Nat.le_of_ble_eq_true rfl) rfl rfl ?_
  refine x_iconst (M := mX3_isSeen) (pc := 0) (v := nI 1) dX3_isSeen_0 (by decide) ?_
  refine x_istore1 (M := mX3_isSeen) (pc := 1) dX3_isSeen_1 ?_
  refine x_iconst (M := mX3_isSeen) (pc := 2) (v := nI 0) dX3_isSeen_2 (by decide) ?_
  refine x_istore2 (M := mX3_isSeen) (pc := 3) dX3_isSeen_3 ?_
  exact m_isSeen_l d hd s ly hB hW h hM _ ⟨rfl, rfl⟩ _ 0 (Nat.zero_add _) _
theorem m_fitting_l (d : Nat) (hd : 4 ≤ d) (x : Int32) (s : Row) (hW : WF s) (I0 : Nat → Int32) (B0 : Nat → Nat → Int32) (wd0 : Int64) (hs : B0 0 = s) (h0 : xH) (Q : xO → xH → Prop)
    (hE : ∀ h I B wd, MR g h m A I B wd → MF m A h0 h → LF I0 B0 wd0 I B wd → ∀ a5, X g l mX3_fitting d 0 0 Q 74 [some (.ref m), some (.int x), some (.int (nI (zFit s 5000).1)), some (.int (zFit s 5000).2.1), some (.int (zFit s 5000).2.2), a5] [] h 0 0) :
    ∀ q f, f + q = 5000 → ∀ h I B wd, MR g h m A I B wd → MF m A h0 h → LF I0 B0 wd0 I B wd → X g l mX3_fitting d 0 0 Q 26 [some (.ref m), some (.int x), some (.int (nI (zFit s f).1)), some (.int (zFit s f).2.1), some (.int (zFit s f).2.2), some (.int (nI f))] [] h 0 0 := by
  intro q
  induction q with
  | zero =>
    intro f hf h I B wd hM hF hL
    have : f = 5000 := by omega
    subst this
    refine x_iload (M := mX3_fitting) (pc := 26) dX3_fitting_26 rfl ?_
    refine x_sipush (M := mX3_fitting) (pc := 28) (v := nI 5000) dX3_fitting_28 (by decide) ?_
    first | with_reducible refine x_icmp_geN (M := mX3_fitting) (pc := 31) 74 dX3_fitting_31 (by decide) (by omega) (by omega) (fun c1 => ?_) (fun c1 => ?_) | refine x_icmp_ge (M := mX3_fitting) (pc := 31) 74 dX3_fitting_31 (by decide) (fun c1 => ?_) (fun c1 => ?_)
    · exact hE h I B wd hM hF hL _
    · omega
  | succ q ih =>
    intro f hf h I B wd hM hF hL
    have hn := zFit_le s f
    refine x_iload (M := mX3_fitting) (pc := 26) dX3_fitting_26 rfl ?_
    refine x_sipush (M := mX3_fitting) (pc := 28) (v := nI 5000) dX3_fitting_28 (by decide) ?_
    first | with_reducible refine x_icmp_geN (M := mX3_fitting) (pc := 31) 74 dX3_fitting_31 (by decide) (by omega) (by omega) (fun c1 => ?_) (fun c1 => ?_) | refine x_icmp_ge (M := mX3_fitting) (pc := 31) 74 dX3_fitting_31 (by decide) (fun c1 => ?_) (fun c1 => ?_)
    · omega
    have hB0 : B 0 = s := (hL.2.1 0 (by omega)).trans hs
    refine x_aload_n (M := mX3_fitting) (pc := 34) dX3_fitting_34 rfl ?_
    refine x_iload (M := mX3_fitting) (pc := 35) dX3_fitting_35 rfl ?_
    refine x_V1 (M := mX3_fitting) (pc := 37) (M' := mX3_layBy) q3002 kVX3_layBy dX3_fitting_37 (m_layBy (d - 1) (zHi s) (zWi s) (nI f) (by omega) hW.1.2.2.2.2.1 (by rw [hB0]; exact hW.1.1) (by rw [hB0]; exact hW.1.2.1) h hM) (hM.is) (fun v_ h hq_ => ?_)
    obtain ⟨v_, I_, B_, wd_, hv_, hQ, hM_, hF_⟩ := hq_
    cases hv_
    replace hF := hF.tr hF_
    replace hM := hM_
    clear hM_ hF_
    obtain ⟨rfl, hL2, hY⟩ := hQ
    first | with_reducible refine x_ifB_eq (M := mX3_fitting) (pc := 40) 68 dX3_fitting_40 (by decide) (fun c40 => ?_) (fun c40 => ?_) | with_reducible refine x_if_eqN (M := mX3_fitting) (pc := 40) 68 dX3_fitting_40 (by decide) (by omega) (fun c40 => ?_) (fun c40 => ?_) | refine x_if_eq (M := mX3_fitting) (pc := 40) 68 dX3_fitting_40 (by decide) (fun c40 => ?_) (fun c40 => ?_)
    · first | refine x_iinc5N (M := mX3_fitting) (pc := 68) (c := 1) dX3_fitting_68 oI1 ?_ | refine x_iinc5 (M := mX3_fitting) (pc := 68) (c := 1) dX3_fitting_68 (by decide) ?_
      refine x_goto (M := mX3_fitting) (pc := 71) 26 dX3_fitting_71 (by decide) ?_
      have := ih (f + 1) (by omega) h _ _ _ hM hF (hL.tr hL2); rw [zFit] at this; first | (rw [if_neg (by rw [c40]; exact Bool.false_ne_true)] at this; exact this) | (rw [if_neg (by rw [c40, c47]; exact Bool.false_ne_true)] at this; exact this) | (rw [if_pos (by rw [c40, c47]; rfl)] at this; exact this)
    · refine x_aload_n (M := mX3_fitting) (pc := 43) dX3_fitting_43 rfl ?_
      refine x_V0 (M := mX3_fitting) (pc := 44) (M' := mX3_isSeen) q3291 kVX3_isSeen dX3_fitting_44 (m_isSeen (d - 1) (by omega) s (zBy s (nI f)) (BW_by hB0 hW c40 hL2 (hY c40)) hW h hM) (hM.is) (fun v_ h hq_ => ?_)
      obtain ⟨hv_, rfl⟩ := hq_; cases hv_
      first | with_reducible refine x_ifB_eq (M := mX3_fitting) (pc := 47) 68 dX3_fitting_47 (by decide) (fun c47 => ?_) (fun c47 => ?_) | with_reducible refine x_if_eqN (M := mX3_fitting) (pc := 47) 68 dX3_fitting_47 (by decide) (by omega) (fun c47 => ?_) (fun c47 => ?_) | refine x_if_eq (M := mX3_fitting) (pc := 47) 68 dX3_fitting_47 (by decide) (fun c47 => ?_) (fun c47 => ?_)
      · first | refine x_iinc5N (M := mX3_fitting) (pc := 68) (c := 1) dX3_fitting_68 oI1 ?_ | refine x_iinc5 (M := mX3_fitting) (pc := 68) (c := 1) dX3_fitting_68 (by decide) ?_
        refine x_goto (M := mX3_fitting) (pc := 71) 26 dX3_fitting_71 (by decide) ?_
        have := ih (f + 1) (by omega) h _ _ _ hM hF (hL.tr hL2); rw [zFit] at this; first | (rw [if_neg (by rw [c40]; exact Bool.false_ne_true)] at this; exact this) | (rw [if_neg (by rw [c40, c47]; exact Bool.false_ne_true)] at this; exact this) | (rw [if_pos (by rw [c40, c47]; rfl)] at this; exact this)
      · refine x_joinV 60 ((if (zFit s f).1 = 0 then nI f else (zFit s f).2.1)) (fun J => ?_) ?_
        · refine x_iload_n (M := mX3_fitting) (pc := 50) dX3_fitting_50 rfl ?_
          first | with_reducible refine x_ifB_ne (M := mX3_fitting) (pc := 51) 59 dX3_fitting_51 (by decide) (fun c51 => ?_) (fun c51 => ?_) | with_reducible refine x_if_neN (M := mX3_fitting) (pc := 51) 59 dX3_fitting_51 (by decide) (by omega) (fun c51 => ?_) (fun c51 => ?_) | refine x_if_ne (M := mX3_fitting) (pc := 51) 59 dX3_fitting_51 (by decide) (fun c51 => ?_) (fun c51 => ?_)
          · refine x_iload_n (M := mX3_fitting) (pc := 59) dX3_fitting_59 rfl ?_
            exact J _ (by first | rw [if_pos c51] | rw [if_neg c51])
          · refine x_iload (M := mX3_fitting) (pc := 54) dX3_fitting_54 rfl ?_
            refine x_goto (M := mX3_fitting) (pc := 56) 60 dX3_fitting_56 (by decide) ?_
            exact J _ (by first | rw [if_pos c51] | rw [if_neg c51])
        refine x_istore3 (M := mX3_fitting) (pc := 60) dX3_fitting_60 ?_
        refine x_iload (M := mX3_fitting) (pc := 61) dX3_fitting_61 rfl ?_
        refine x_istore4 (M := mX3_fitting) (pc := 63) dX3_fitting_63 ?_
        first | refine x_iinc2N (M := mX3_fitting) (pc := 65) (c := 1) dX3_fitting_65 oI1 ?_ | refine x_iinc2 (M := mX3_fitting) (pc := 65) (c := 1) dX3_fitting_65 (by decide) ?_
        first | refine x_iinc5N (M := mX3_fitting) (pc := 68) (c := 1) dX3_fitting_68 oI1 ?_ | refine x_iinc5 (M := mX3_fitting) (pc := 68) (c := 1) dX3_fitting_68 (by decide) ?_
        refine x_goto (M := mX3_fitting) (pc := 71) 26 dX3_fitting_71 (by decide) ?_
        have := ih (f + 1) (by omega) h _ _ _ hM hF (hL.tr hL2); rw [zFit] at this; first | (rw [if_neg (by rw [c40]; exact Bool.false_ne_true)] at this; exact this) | (rw [if_neg (by rw [c40, c47]; exact Bool.false_ne_true)] at this; exact this) | (rw [if_pos (by rw [c40, c47]; rfl)] at this; exact this)
theorem m_fitting (d : Nat) (hd : 4 ≤ d) (hW : WF (B 0)) (x : Int32) : MC g l mX3_fitting d [.int x] m A I B wd (QF I B (q_fitting (B 0) x)) := by
  intro h hM
  have hF : MF m A h h := MF.rf
  refine Ct.of [some (.ref m), some (.int x), none, none, none, none] (by decide +kernel) rfl (Nat.le_of_ble_eq_true rfl) rfl rfl ?_
  refine x_iload_n (M := mX3_fitting) (pc := 0) dX3_fitting_0 rfl ?_
  refine x_i2l (M := mX3_fitting) (pc := 1) dX3_fitting_1 ?_
  refine x_lconst (M := mX3_fitting) (pc := 2) (v := 0) dX3_fitting_2 (by decide) ?_
  refine x_ldc2 (M := mX3_fitting) (pc := 3) dX3_fitting_3 q3245 ?_
  refine x_S3 (M := mX3_fitting) (pc := 6) (M' := mX3_in) q2949 kSX3_in dX3_fitting_6 (m_inB h x 0 2 0 2 (by decide) (by decide) (d - 1)) (fun v_ h hq_ => ?_)
  obtain ⟨hv_, rfl⟩ := hq_; cases hv_
  first | with_reducible refine x_ifB_ne (M := mX3_fitting) (pc := 9) 14 dX3_fitting_9 (by decide) (fun c9 => ?_) (fun c9 => ?_) | with_reducible refine x_if_neN (M := mX3_fitting) (pc := 9) 14 dX3_fitting_9 (by decide) (by omega) (fun c9 => ?_) (fun c9 => ?_) | refine x_if_ne (M := mX3_fitting) (pc := 9) 14 dX3_fitting_9 (by decide) (fun c9 => ?_) (fun c9 => ?_)
  rotate_left
  · refine x_iconst (M := mX3_fitting) (pc := 12) (v := (-1)) dX3_fitting_12 (by decide) ?_
    refine x_iret (M := mX3_fitting) (pc := 13) dX3_fitting_13 rfl (Nat.le_refl 0) (Nat.le_refl 0) ⟨_, _, _, _, rfl, ?_, hM, hF⟩
    exact QF.lf (by rw [q_fitting, if_pos c9]) LF.rf
  refine x_iconst (M := mX3_fitting) (pc := 14) (v := nI 0) dX3_fitting_14 (by decide) ?_
  refine x_istore2 (M := mX3_fitting) (pc := 15) dX3_fitting_15 ?_
  refine x_bipush (M := mX3_fitting) (pc := 16) (v := (-9)) dX3_fitting_16 (by decide) ?_
  refine x_istore3 (M := mX3_fitting) (pc := 18) dX3_fitting_18 ?_
  refine x_bipush (M := mX3_fitting) (pc := 19) (v := (-9)) dX3_fitting_19 (by decide) ?_
  refine x_istore4 (M := mX3_fitting) (pc := 21) dX3_fitting_21 ?_
  refine x_iconst (M := mX3_fitting) (pc := 23) (v := nI 0) dX3_fitting_23 (by decide) ?_
  refine x_istore5 (M := mX3_fitting) (pc := 24) dX3_fitting_24 ?_
  skip
  refine m_fitting_l d hd x (B 0) hW I B wd rfl h _ (fun h I_ B_ wd_ hM hF hL a5 => ?_) 5000 0 rfl h I B wd hM hF LF.rf
  refine x_iload_n (M := mX3_fitting) (pc := 74) dX3_fitting_74 rfl ?_
  refine x_if_ne (M := mX3_fitting) (pc := 75) 82 dX3_fitting_75 (by decide) (fun r_1 => ?_) (fun r_1 => ?_)
  · refine x_iload_n (M := mX3_fitting) (pc := 82) dX3_fitting_82 rfl ?_
    refine x_iconst (M := mX3_fitting) (pc := 83) (v := nI 1) dX3_fitting_83 (by decide) ?_
    refine x_icmp_ne (M := mX3_fitting) (pc := 84) 91 dX3_fitting_84 (by decide) (fun r_2 => ?_) (fun r_2 => ?_)
    · refine x_iload (M := mX3_fitting) (pc := 91) dX3_fitting_91 rfl ?_
      refine x_iret (M := mX3_fitting) (pc := 93) dX3_fitting_93 rfl (Nat.le_refl 0) (Nat.le_refl 0) ⟨_, _, _, _, rfl, ?_, hM, hF⟩
      refine QF.lf ?_ hL; rw [q_fitting, if_neg (by rw [c9]; decide)]; first | (rw [if_pos (show x = 0 from r_1)]; done) | (rw [if_neg (show ¬ x = 0 from r_1), if_pos (show x = 1 from r_2)]; done) | (rw [if_neg (show ¬ x = 0 from r_1), if_neg (show ¬ x = 1 from r_2)]; done)
    · refine x_iload_n (M := mX3_fitting) (pc := 87) dX3_fitting_87 rfl ?_
      refine x_goto (M := mX3_fitting) (pc := 88) 93 dX3_fitting_88 (by decide) ?_
      refine x_iret (M := mX3_fitting) (pc := 93) dX3_fitting_93 rfl (Nat.le_refl 0) (Nat.le_refl 0) ⟨_, _, _, _, rfl, ?_, hM, hF⟩
      refine QF.lf ?_ hL; rw [q_fitting, if_neg (by rw [c9]; decide)]; first | (rw [if_pos (show x = 0 from r_1)]; done) | (rw [if_neg (show ¬ x = 0 from r_1), if_pos (show x = 1 from r_2)]; done) | (rw [if_neg (show ¬ x = 0 from r_1), if_neg (show ¬ x = 1 from r_2)]; done)
  · refine x_iload_n (M := mX3_fitting) (pc := 78) dX3_fitting_78 rfl ?_
    refine x_goto (M := mX3_fitting) (pc := 79) 93 dX3_fitting_79 (by decide) ?_
    refine x_iret (M := mX3_fitting) (pc := 93) dX3_fitting_93 rfl (Nat.le_refl 0) (Nat.le_refl 0) ⟨_, _, _, _, rfl, ?_, hM, hF⟩
    refine QF.lf ?_ hL; rw [q_fitting, if_neg (by rw [c9]; decide)]; first | (rw [if_pos (show x = 0 from r_1)]; done) | (rw [if_neg (show ¬ x = 0 from r_1), if_pos (show x = 1 from r_2)]; done) | (rw [if_neg (show ¬ x = 0 from r_1), if_neg (show ¬ x = 1 from r_2)]; done)
end MODELG
section MODELG2
set_option maxRecDepth 100000
variable {g : xG} {l : Launch} {m : Nat} {A : Nat → Nat} {I : Nat → Int32} {B : Nat → Nat → Int32} {wd : Int64}
theorem zOwns_le (s : Row) (ly : Nat → Lay) : zOwns s ly ≤ 2 * zN16 s := by
  have := (fstN_le (fun pg => !zOwn s ly pg) (2 * zN16 s) 0).2
  rw [Nat.zero_add] at this; exact this
theorem zBst_le (s : Row) (h : zN16 s ≤ 16) : ∀ f, (zBst s f).2.1 ≤ 16 ∧ (zBst s f).2.2 ≤ 32
  | 0 => ⟨Nat.zero_le _, Nat.zero_le _⟩
  | f + 1 => by
    unfold zBst
    split
    · exact ⟨p_ones_le _ _, Nat.le_trans (zOwns_le s _) (by omega)⟩
    · exact zBst_le s h f
theorem m_best_l (d : Nat) (hd : 4 ≤ d) (x : Int32) (s : Row) (hW : WF s) (I0 : Nat → Int32) (B0 : Nat → Nat → Int32) (wd0 : Int64) (hs : B0 0 = s) (h0 : xH) (Q : xO → xH → Prop)
    (hE : ∀ h I B wd, MR g h m A I B wd → MF m A h0 h → LF I0 B0 wd0 I B wd → ∀ a5 a6 a7 a8, X g l mX3_best d 0 0 Q 130 [some (.ref m), some (.int x), some (.int (zBst s 5000).1), some (.int (nI (zBst s 5000).2.1)), some (.int (nI (zBst s 5000).2.2)), a5, a6, a7, a8] [] h 0 0) :
    ∀ q f, f + q = 5000 → ∀ h I B wd a6 a7 a8, MR g h m A I B wd → MF m A h0 h → LF I0 B0 wd0 I B wd → X g l mX3_best d 0 0 Q 24 [some (.ref m), some (.int x), some (.int (zBst s f).1), some (.int (nI (zBst s f).2.1)), some (.int (nI (zBst s f).2.2)), some (.int (nI f)), a6, a7, a8] [] h 0 0 := by
  have hok := p_ok_b hW.1.2.2.2.2.1
  have h16 : zN16 s ≤ 16 := by show zHi s * zWi s ≤ 16; omega
  intro q
  induction q with
  | zero =>
    intro f hf h I B wd a6 a7 a8 hM hF hL
    have : f = 5000 := by omega
    subst this
    refine x_iload (M := mX3_best) (pc := 24) dX3_best_24 rfl ?_
    refine x_sipush (M := mX3_best) (pc := 26) (v := nI 5000) dX3_best_26 (by decide) ?_
    first | with_reducible refine x_icmp_geN (M := mX3_best) (pc := 29) 130 dX3_best_29 (by decide) (by omega) (by omega) (fun c1 => ?_) (fun c1 => ?_) | refine x_icmp_ge (M := mX3_best) (pc := 29) 130 dX3_best_29 (by decide) (fun c1 => ?_) (fun c1 => ?_)
    · exact hE h I B wd hM hF hL _ _ _ _
    · omega
  | succ q ih =>
    intro f hf h I B wd a6 a7 a8 hM hF hL
    obtain ⟨ht1, ht2⟩ := zBst_le s h16 f
    have hcu := zCuts_lt (s := s) (ly := zBy s (nI f))
    have hon := p_ones_le 16 (zCuts s (zBy s (nI f)))
    have how := zOwns_le s (zBy s (nI f))
    refine x_iload (M := mX3_best) (pc := 24) dX3_best_24 rfl ?_
    refine x_sipush (M := mX3_best) (pc := 26) (v := nI 5000) dX3_best_26 (by decide) ?_
    first | with_reducible refine x_icmp_geN (M := mX3_best) (pc := 29) 130 dX3_best_29 (by decide) (by omega) (by omega) (fun c1 => ?_) (fun c1 => ?_) | refine x_icmp_ge (M := mX3_best) (pc := 29) 130 dX3_best_29 (by decide) (fun c1 => ?_) (fun c1 => ?_)
    · omega
    have hB0 : B 0 = s := (hL.2.1 0 (by omega)).trans hs
    have hz : zBst s (f + 1) = if p_isRowI (zHi s) (zWi s) (nI f) && zBetter s f (zBst s f) then (nI f, p_ones 16 (zCuts s (zBy s (nI f))), zOwns s (zBy s (nI f))) else zBst s f := rfl
    refine x_aload_n (M := mX3_best) (pc := 32) dX3_best_32 rfl ?_
    refine x_iload (M := mX3_best) (pc := 33) dX3_best_33 rfl ?_
    refine x_V1 (M := mX3_best) (pc := 35) (M' := mX3_layBy) q3002 kVX3_layBy dX3_best_35 (m_layBy (d - 1) (zHi s) (zWi s) (nI f) (by omega) hW.1.2.2.2.2.1 (by rw [hB0]; exact hW.1.1) (by rw [hB0]; exact hW.1.2.1) h hM) (hM.is) (fun v_ h hq_ => ?_)
    obtain ⟨v_, I_, B_, wd_, hv_, hQ, hM_, hF_⟩ := hq_
    cases hv_
    replace hF := hF.tr hF_
    replace hM := hM_
    clear hM_ hF_
    obtain ⟨rfl, hL2, hY⟩ := hQ
    first | with_reducible refine x_ifB_eq (M := mX3_best) (pc := 38) 124 dX3_best_38 (by decide) (fun c38 => ?_) (fun c38 => ?_) | with_reducible refine x_if_eqN (M := mX3_best) (pc := 38) 124 dX3_best_38 (by decide) (by omega) (fun c38 => ?_) (fun c38 => ?_) | refine x_if_eq (M := mX3_best) (pc := 38) 124 dX3_best_38 (by decide) (fun c38 => ?_) (fun c38 => ?_)
    · first | refine x_iinc5N (M := mX3_best) (pc := 124) (c := 1) dX3_best_124 oI1 ?_ | refine x_iinc5 (M := mX3_best) (pc := 124) (c := 1) dX3_best_124 (by decide) ?_
      refine x_goto (M := mX3_best) (pc := 127) 24 dX3_best_127 (by decide) ?_
      first | exact ih (f + 1) (by omega) h _ _ _ _ _ _ hM hF (hL.tr hL2) | (have := ih (f + 1) (by omega) h _ _ _ a6 a7 a8 hM hF (hL.tr hL2); rw [hz, if_neg (by rw [c38]; exact Bool.false_ne_true)] at this; exact this)
    · refine x_aload_n (M := mX3_best) (pc := 41) dX3_best_41 rfl ?_
      refine x_V0 (M := mX3_best) (pc := 42) (M' := mX3_edgesToCut) q3307 kVX3_edgesToCut dX3_best_42 (m_edgesToCut (d - 1) (by omega) s (zBy s (nI f)) (BW_by hB0 hW c38 hL2 (hY c38)) hW h hM) (hM.is) (fun v_ h hq_ => ?_)
      obtain ⟨hv_, rfl⟩ := hq_; cases hv_
      refine x_S1 (M := mX3_best) (pc := 45) (M' := mX3_ones) q3043 kSX3_ones dX3_best_45 (m_ones h (zCuts s (zBy s (nI f))) (d - 1) (by omega)) (fun v_ h hq_ => ?_)
      obtain ⟨hv_, rfl⟩ := hq_; cases hv_
      refine x_istore6 (M := mX3_best) (pc := 48) dX3_best_48 ?_
      refine x_aload_n (M := mX3_best) (pc := 50) dX3_best_50 rfl ?_
      refine x_V0 (M := mX3_best) (pc := 51) (M' := mX3_ownPages) q3299 kVX3_ownPages dX3_best_51 (m_ownPages (d - 1) (by omega) s (zBy s (nI f)) (BW_by hB0 hW c38 hL2 (hY c38)) hW h hM) (hM.is) (fun v_ h hq_ => ?_)
      obtain ⟨hv_, rfl⟩ := hq_; cases hv_
      refine x_istore7 (M := mX3_best) (pc := 54) dX3_best_54 ?_
      refine x_joinB 84 (zBetter s f (zBst s f)) (fun J => ?_) ?_
      · refine x_iload_n (M := mX3_best) (pc := 56) dX3_best_56 rfl ?_
        refine x_if_lt (M := mX3_best) (pc := 57) 79 dX3_best_57 (by decide) (fun r_1 => ?_) (fun r_1 => ?_)
        · refine x_iconst (M := mX3_best) (pc := 79) (v := nI 1) dX3_best_79 (by decide) ?_
          refine x_goto (M := mX3_best) (pc := 80) 84 dX3_best_80 (by decide) ?_
          first | exact J true (by unfold zBetter; simp [*]; done) | exact J false (by unfold zBetter; simp [*]; done)
        · refine x_iload (M := mX3_best) (pc := 60) dX3_best_60 rfl ?_
          refine x_iload_n (M := mX3_best) (pc := 62) dX3_best_62 rfl ?_
          first | with_reducible refine x_icmp_ltN (M := mX3_best) (pc := 63) 79 dX3_best_63 (by decide) (by omega) (by omega) (fun c63 => ?_) (fun c63 => ?_) | refine x_icmp_lt (M := mX3_best) (pc := 63) 79 dX3_best_63 (by decide) (fun c63 => ?_) (fun c63 => ?_)
          · refine x_iconst (M := mX3_best) (pc := 79) (v := nI 1) dX3_best_79 (by decide) ?_
            refine x_goto (M := mX3_best) (pc := 80) 84 dX3_best_80 (by decide) ?_
            first | exact J true (by unfold zBetter; simp [*]; done) | exact J false (by unfold zBetter; simp [*]; done)
          · refine x_iload (M := mX3_best) (pc := 66) dX3_best_66 rfl ?_
            refine x_iload_n (M := mX3_best) (pc := 68) dX3_best_68 rfl ?_
            first | with_reducible refine x_icmp_neN (M := mX3_best) (pc := 69) 83 dX3_best_69 (by decide) (by omega) (by omega) (fun c69 => ?_) (fun c69 => ?_) | refine x_icmp_ne (M := mX3_best) (pc := 69) 83 dX3_best_69 (by decide) (fun c69 => ?_) (fun c69 => ?_)
            · refine x_iconst (M := mX3_best) (pc := 83) (v := nI 0) dX3_best_83 (by decide) ?_
              first | exact J true (by unfold zBetter; simp [*]; done) | exact J false (by unfold zBetter; simp [*]; done)
            · refine x_iload (M := mX3_best) (pc := 72) dX3_best_72 rfl ?_
              refine x_iload (M := mX3_best) (pc := 74) dX3_best_74 rfl ?_
              first | with_reducible refine x_icmp_leN (M := mX3_best) (pc := 76) 83 dX3_best_76 (by decide) (by omega) (by omega) (fun c76 => ?_) (fun c76 => ?_) | refine x_icmp_le (M := mX3_best) (pc := 76) 83 dX3_best_76 (by decide) (fun c76 => ?_) (fun c76 => ?_)
              · refine x_iconst (M := mX3_best) (pc := 83) (v := nI 0) dX3_best_83 (by decide) ?_
                first | exact J true (by unfold zBetter; simp [*]; done) | exact J false (by unfold zBetter; simp [*]; done)
              · refine x_iconst (M := mX3_best) (pc := 79) (v := nI 1) dX3_best_79 (by decide) ?_
                refine x_goto (M := mX3_best) (pc := 80) 84 dX3_best_80 (by decide) ?_
                first | exact J true (by unfold zBetter; simp [*]; done) | exact J false (by unfold zBetter; simp [*]; done)
      refine x_istore8 (M := mX3_best) (pc := 84) dX3_best_84 ?_
      refine x_joinV 97 ((zBst s (f + 1)).1) (fun J => ?_) ?_
      · refine x_iload (M := mX3_best) (pc := 86) dX3_best_86 rfl ?_
        first | with_reducible refine x_ifB_eq (M := mX3_best) (pc := 88) 96 dX3_best_88 (by decide) (fun c88 => ?_) (fun c88 => ?_) | with_reducible refine x_if_eqN (M := mX3_best) (pc := 88) 96 dX3_best_88 (by decide) (by omega) (fun c88 => ?_) (fun c88 => ?_) | refine x_if_eq (M := mX3_best) (pc := 88) 96 dX3_best_88 (by decide) (fun c88 => ?_) (fun c88 => ?_)
        · refine x_iload_n (M := mX3_best) (pc := 96) dX3_best_96 rfl ?_
          exact J _ (by rw [hz, c38]; first | rw [if_pos (by rw [c88]; rfl)] | rw [if_neg (by rw [c88]; exact Bool.false_ne_true)])
        · refine x_iload (M := mX3_best) (pc := 91) dX3_best_91 rfl ?_
          refine x_goto (M := mX3_best) (pc := 93) 97 dX3_best_93 (by decide) ?_
          exact J _ (by rw [hz, c38]; first | rw [if_pos (by rw [c88]; rfl)] | rw [if_neg (by rw [c88]; exact Bool.false_ne_true)])
      refine x_istore2 (M := mX3_best) (pc := 97) dX3_best_97 ?_
      refine x_joinV 109 (nI (zBst s (f + 1)).2.1) (fun J => ?_) ?_
      · refine x_iload (M := mX3_best) (pc := 98) dX3_best_98 rfl ?_
        first | with_reducible refine x_ifB_eq (M := mX3_best) (pc := 100) 108 dX3_best_100 (by decide) (fun c100 => ?_) (fun c100 => ?_) | with_reducible refine x_if_eqN (M := mX3_best) (pc := 100) 108 dX3_best_100 (by decide) (by omega) (fun c100 => ?_) (fun c100 => ?_) | refine x_if_eq (M := mX3_best) (pc := 100) 108 dX3_best_100 (by decide) (fun c100 => ?_) (fun c100 => ?_)
        · refine x_iload_n (M := mX3_best) (pc := 108) dX3_best_108 rfl ?_
          exact J _ (by rw [hz, c38]; first | rw [if_pos (by rw [c100]; rfl)] | rw [if_neg (by rw [c100]; exact Bool.false_ne_true)])
        · refine x_iload (M := mX3_best) (pc := 103) dX3_best_103 rfl ?_
          refine x_goto (M := mX3_best) (pc := 105) 109 dX3_best_105 (by decide) ?_
          exact J _ (by rw [hz, c38]; first | rw [if_pos (by rw [c100]; rfl)] | rw [if_neg (by rw [c100]; exact Bool.false_ne_true)])
      refine x_istore3 (M := mX3_best) (pc := 109) dX3_best_109 ?_
      refine x_joinV 122 (nI (zBst s (f + 1)).2.2) (fun J => ?_) ?_
      · refine x_iload (M := mX3_best) (pc := 110) dX3_best_110 rfl ?_
        first | with_reducible refine x_ifB_eq (M := mX3_best) (pc := 112) 120 dX3_best_112 (by decide) (fun c112 => ?_) (fun c112 => ?_) | with_reducible refine x_if_eqN (M := mX3_best) (pc := 112) 120 dX3_best_112 (by decide) (by omega) (fun c112 => ?_) (fun c112 => ?_) | refine x_if_eq (M := mX3_best) (pc := 112) 120 dX3_best_112 (by decide) (fun c112 => ?_) (fun c112 => ?_)
        · refine x_iload (M := mX3_best) (pc := 120) dX3_best_120 rfl ?_
          exact J _ (by rw [hz, c38]; first | rw [if_pos (by rw [c112]; rfl)] | rw [if_neg (by rw [c112]; exact Bool.false_ne_true)])
        · refine x_iload (M := mX3_best) (pc := 115) dX3_best_115 rfl ?_
          refine x_goto (M := mX3_best) (pc := 117) 122 dX3_best_117 (by decide) ?_
          exact J _ (by rw [hz, c38]; first | rw [if_pos (by rw [c112]; rfl)] | rw [if_neg (by rw [c112]; exact Bool.false_ne_true)])
      refine x_istore4 (M := mX3_best) (pc := 122) dX3_best_122 ?_
      first | refine x_iinc5N (M := mX3_best) (pc := 124) (c := 1) dX3_best_124 oI1 ?_ | refine x_iinc5 (M := mX3_best) (pc := 124) (c := 1) dX3_best_124 (by decide) ?_
      refine x_goto (M := mX3_best) (pc := 127) 24 dX3_best_127 (by decide) ?_
      first | exact ih (f + 1) (by omega) h _ _ _ _ _ _ hM hF (hL.tr hL2) | (have := ih (f + 1) (by omega) h _ _ _ a6 a7 a8 hM hF (hL.tr hL2); rw [hz, if_neg (by rw [c38]; exact Bool.false_ne_true)] at this; exact this)
theorem m_best (d : Nat) (hd : 4 ≤ d) (hW : WF (B 0)) (x : Int32) : MC g l mX3_best d [.int x] m A I B wd (QF I B (q_best (B 0) x)) := by
  intro h hM
  have hF : MF m A h h := MF.rf
  refine Ct.of [some (.ref m), some (.int x), none, none, none, none, none, none, none] (by decide +kernel) rfl (Nat.le_of_ble_eq_true rfl) rfl rfl ?_
  refine x_iload_n (M := mX3_best) (pc := 0) dX3_best_0 rfl ?_
  refine x_i2l (M := mX3_best) (pc := 1) dX3_best_1 ?_
  refine x_lconst (M := mX3_best) (pc := 2) (v := 0) dX3_best_2 (by decide) ?_
  refine x_ldc2 (M := mX3_best) (pc := 3) dX3_best_3 q3245 ?_
  refine x_S3 (M := mX3_best) (pc := 6) (M' := mX3_in) q2949 kSX3_in dX3_best_6 (m_inB h x 0 2 0 2 (by decide) (by decide) (d - 1)) (fun v_ h hq_ => ?_)
  obtain ⟨hv_, rfl⟩ := hq_; cases hv_
  first | with_reducible refine x_ifB_ne (M := mX3_best) (pc := 9) 14 dX3_best_9 (by decide) (fun c9 => ?_) (fun c9 => ?_) | with_reducible refine x_if_neN (M := mX3_best) (pc := 9) 14 dX3_best_9 (by decide) (by omega) (fun c9 => ?_) (fun c9 => ?_) | refine x_if_ne (M := mX3_best) (pc := 9) 14 dX3_best_9 (by decide) (fun c9 => ?_) (fun c9 => ?_)
  rotate_left
  · refine x_iconst (M := mX3_best) (pc := 12) (v := (-1)) dX3_best_12 (by decide) ?_
    refine x_iret (M := mX3_best) (pc := 13) dX3_best_13 rfl (Nat.le_refl 0) (Nat.le_refl 0) ⟨_, _, _, _, rfl, ?_, hM, hF⟩
    exact QF.lf (by rw [q_best, if_pos c9]) LF.rf
  refine x_iconst (M := mX3_best) (pc := 14) (v := (-1)) dX3_best_14 (by decide) ?_
  refine x_istore2 (M := mX3_best) (pc := 15) dX3_best_15 ?_
  refine x_iconst (M := mX3_best) (pc := 16) (v := nI 0) dX3_best_16 (by decide) ?_
  refine x_istore3 (M := mX3_best) (pc := 17) dX3_best_17 ?_
  refine x_iconst (M := mX3_best) (pc := 18) (v := nI 0) dX3_best_18 (by decide) ?_
  refine x_istore4 (M := mX3_best) (pc := 19) dX3_best_19 ?_
  refine x_iconst (M := mX3_best) (pc := 21) (v := nI 0) dX3_best_21 (by decide) ?_
  refine x_istore5 (M := mX3_best) (pc := 22) dX3_best_22 ?_
  skip
  refine m_best_l d hd x (B 0) hW I B wd rfl h _ (fun h I_ B_ wd_ hM hF hL a5 a6 a7 a8 => ?_) 5000 0 rfl h I B wd _ _ _ hM hF LF.rf
  refine x_iload_n (M := mX3_best) (pc := 130) dX3_best_130 rfl ?_
  refine x_if_ne (M := mX3_best) (pc := 131) 138 dX3_best_131 (by decide) (fun r_1 => ?_) (fun r_1 => ?_)
  · refine x_iload_n (M := mX3_best) (pc := 138) dX3_best_138 rfl ?_
    refine x_iconst (M := mX3_best) (pc := 139) (v := nI 1) dX3_best_139 (by decide) ?_
    refine x_icmp_ne (M := mX3_best) (pc := 140) 147 dX3_best_140 (by decide) (fun r_2 => ?_) (fun r_2 => ?_)
    · refine x_iload (M := mX3_best) (pc := 147) dX3_best_147 rfl ?_
      refine x_iret (M := mX3_best) (pc := 149) dX3_best_149 rfl (Nat.le_refl 0) (Nat.le_refl 0) ⟨_, _, _, _, rfl, ?_, hM, hF⟩
      refine QF.lf ?_ hL; rw [q_best, if_neg (by rw [c9]; decide)]; first | (rw [if_pos (show x = 0 from r_1)]; done) | (rw [if_neg (show ¬ x = 0 from r_1), if_pos (show x = 1 from r_2)]; done) | (rw [if_neg (show ¬ x = 0 from r_1), if_neg (show ¬ x = 1 from r_2)]; done)
    · refine x_iload_n (M := mX3_best) (pc := 143) dX3_best_143 rfl ?_
      refine x_goto (M := mX3_best) (pc := 144) 149 dX3_best_144 (by decide) ?_
      refine x_iret (M := mX3_best) (pc := 149) dX3_best_149 rfl (Nat.le_refl 0) (Nat.le_refl 0) ⟨_, _, _, _, rfl, ?_, hM, hF⟩
      refine QF.lf ?_ hL; rw [q_best, if_neg (by rw [c9]; decide)]; first | (rw [if_pos (show x = 0 from r_1)]; done) | (rw [if_neg (show ¬ x = 0 from r_1), if_pos (show x = 1 from r_2)]; done) | (rw [if_neg (show ¬ x = 0 from r_1), if_neg (show ¬ x = 1 from r_2)]; done)
  · refine x_iload_n (M := mX3_best) (pc := 134) dX3_best_134 rfl ?_
    refine x_goto (M := mX3_best) (pc := 135) 149 dX3_best_135 (by decide) ?_
    refine x_iret (M := mX3_best) (pc := 149) dX3_best_149 rfl (Nat.le_refl 0) (Nat.le_refl 0) ⟨_, _, _, _, rfl, ?_, hM, hF⟩
    refine QF.lf ?_ hL; rw [q_best, if_neg (by rw [c9]; decide)]; first | (rw [if_pos (show x = 0 from r_1)]; done) | (rw [if_neg (show ¬ x = 0 from r_1), if_pos (show x = 1 from r_2)]; done) | (rw [if_neg (show ¬ x = 0 from r_1), if_neg (show ¬ x = 1 from r_2)]; done)
end MODELG2

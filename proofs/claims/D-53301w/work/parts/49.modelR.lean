section MODELR
set_option maxRecDepth 100000
/-- the token read last is the one after p -/
def TK (I : Nat → Int32) (wd : Int64) (tx : Nat → Nat) (len p : Nat) : Prop := I 18 = nI (t_sp tx len p) ∧ I 20 = nI (t_kd tx len p) ∧ wd = t_wo tx len p ∧ (t_kd tx len p = 2 → I 22 = nI (t_nu tx len p)) ∧ I 19 = nI (t_b tx len p) ∧ p ≤ len
def t_ns (tx : Nat → Nat) (len : Nat) : Nat → Nat → List Nat × Nat
  | 0, p => ([], p)
  | q + 1, p => if t_kd tx len p = 2 then (t_nu tx len p :: (t_ns tx len q (t_sp tx len p)).1, (t_ns tx len q (t_sp tx len p)).2) else ([], p)
def NB (I0 : Nat → Int32) (B0 : Nat → Nat → Int32) (I : Nat → Int32) (B : Nat → Nat → Int32) (wd : Int64) (tx : Nat → Nat) (len : Nat) (L : List Nat) (p : Nat) : Prop :=
  TX I B len tx ∧ TK I wd tx len p ∧ (∀ j, j ≠ 18 → j ≠ 19 → j ≠ 20 → j ≠ 22 → j ≠ 24 → I j = I0 j) ∧ (∀ j, j ≠ 23 → B j = B0 j) ∧ I 24 = nI L.length ∧ ∀ k, k < L.length → B 23 k = nI (L.getD k 0)
variable {g : xG} {l : Launch} {m : Nat} {A : Nat → Nat} {I : Nat → Int32} {B : Nat → Nat → Int32} {wd : Int64}
theorem t_kd_lt (tx : Nat → Nat) (len p : Nat) : t_kd tx len p < 5 := by
  unfold t_kd
  repeat' split
  all_goals omega
theorem NX.tk {I' : Nat → Int32} {B' : Nat → Nat → Int32} {wd' : Int64} {v : Option Value} {tx : Nat → Nat} {len p : Nat} (hp : p ≤ len) (h : NX I B tx len p v I' B' wd') : TK I' wd' tx len p := ⟨h.2.2.2.1, h.2.2.2.2.1, h.2.2.2.2.2.1, h.2.2.2.2.2.2.1, h.2.2.2.2.2.2.2, hp⟩
theorem m_numbers_l (d len most : Nat) (tx : Nat → Nat) (hd : 4 ≤ d) (hmost : most ≤ 4) (x1 : Int32) (I0 : Nat → Int32) (B0 : Nat → Nat → Int32) (h0 : xH) (Q : xO → xH → Prop) :
    ∀ q p L0, L0.length + q = most → ∀ h I B wd, NB I0 B0 I B wd tx len L0 p → MR g h m A I B wd → MF m A h0 h →
    (∀ h I B wd, NB I0 B0 I B wd tx len (L0 ++ (t_ns tx len q p).1) (t_ns tx len q p).2 → MR g h m A I B wd → MF m A h0 h → X g l mX3_numbers d 0 0 Q 55 [some (.ref m), some (.int x1), some (.int (nI most))] [] h 0 0) →
    X g l mX3_numbers d 0 0 Q 9 [some (.ref m), some (.int x1), some (.int (nI most))] [] h 0 0 := by
  intro q
  induction q with
  | zero =>
    intro p L0 hL h I B wd hN hM hF hE
    have hk := t_kd_lt tx len p
    have hfin : X g l mX3_numbers d 0 0 Q 55 [some (.ref m), some (.int x1), some (.int (nI most))] [] h 0 0 := hE h I B wd (by rw [t_ns, List.append_nil]; exact hN) hM hF
    refine x_aload_n (M := mX3_numbers) (pc := 9) dX3_numbers_9 rfl ?_
    refine x_get (M := mX3_numbers) (pc := 10) kcX3 20 rfl q2855 dX3_numbers_10 hM.1 rfl ?_
    refine x_val (M := mX3_numbers) (pc := 13) (hN.2.1.2.1) ?_
    refine x_iconst (M := mX3_numbers) (pc := 13) (v := nI 2) dX3_numbers_13 (by decide) ?_
    first | with_reducible refine x_icmp_neN (M := mX3_numbers) (pc := 14) 55 dX3_numbers_14 (by decide) (by omega) (by omega) (fun c14 => ?_) (fun c14 => ?_) | refine x_icmp_ne (M := mX3_numbers) (pc := 14) 55 dX3_numbers_14 (by decide) (fun c14 => ?_) (fun c14 => ?_)
    · exact hfin
    · refine x_aload_n (M := mX3_numbers) (pc := 17) dX3_numbers_17 rfl ?_
      refine x_get (M := mX3_numbers) (pc := 18) kcX3 24 rfl q2859 dX3_numbers_18 hM.1 rfl ?_
      refine x_val (M := mX3_numbers) (pc := 21) (hN.2.2.2.2.1) ?_
      refine x_iload_n (M := mX3_numbers) (pc := 21) dX3_numbers_21 rfl ?_
      first | with_reducible refine x_icmp_geN (M := mX3_numbers) (pc := 22) 55 dX3_numbers_22 (by decide) (by omega) (by omega) (fun c22 => ?_) (fun c22 => ?_) | refine x_icmp_ge (M := mX3_numbers) (pc := 22) 55 dX3_numbers_22 (by decide) (fun c22 => ?_) (fun c22 => ?_)
      · exact hfin
      · omega
  | succ q ih =>
    intro p L0 hL h I B wd hN hM hF hE
    have hk := t_kd_lt tx len p
    obtain ⟨hT, ⟨k1, k2, k3, k4, k5, k6⟩, f1, f2, n1, n2⟩ := id hN
    by_cases hkd : t_kd tx len p = 2
    · have hnu := k4 hkd
      rw [t_ns, if_pos hkd] at hE
      refine x_aload_n (M := mX3_numbers) (pc := 9) dX3_numbers_9 rfl ?_
      refine x_get (M := mX3_numbers) (pc := 10) kcX3 20 rfl q2855 dX3_numbers_10 hM.1 rfl ?_
      refine x_val (M := mX3_numbers) (pc := 13) (k2) ?_
      refine x_iconst (M := mX3_numbers) (pc := 13) (v := nI 2) dX3_numbers_13 (by decide) ?_
      first | with_reducible refine x_icmp_neN (M := mX3_numbers) (pc := 14) 55 dX3_numbers_14 (by decide) (by omega) (by omega) (fun c14 => ?_) (fun c14 => ?_) | refine x_icmp_ne (M := mX3_numbers) (pc := 14) 55 dX3_numbers_14 (by decide) (fun c14 => ?_) (fun c14 => ?_)
      · exact absurd hkd c14
      refine x_aload_n (M := mX3_numbers) (pc := 17) dX3_numbers_17 rfl ?_
      refine x_get (M := mX3_numbers) (pc := 18) kcX3 24 rfl q2859 dX3_numbers_18 hM.1 rfl ?_
      refine x_val (M := mX3_numbers) (pc := 21) (n1) ?_
      refine x_iload_n (M := mX3_numbers) (pc := 21) dX3_numbers_21 rfl ?_
      first | with_reducible refine x_icmp_geN (M := mX3_numbers) (pc := 22) 55 dX3_numbers_22 (by decide) (by omega) (by omega) (fun c22 => ?_) (fun c22 => ?_) | refine x_icmp_ge (M := mX3_numbers) (pc := 22) 55 dX3_numbers_22 (by decide) (fun c22 => ?_) (fun c22 => ?_)
      · omega
      refine x_aload_n (M := mX3_numbers) (pc := 25) dX3_numbers_25 rfl ?_
      refine x_get (M := mX3_numbers) (pc := 26) kcX3 23 rfl q2858 dX3_numbers_26 hM.1 rfl ?_
      refine x_aload_n (M := mX3_numbers) (pc := 29) dX3_numbers_29 rfl ?_
      refine x_get (M := mX3_numbers) (pc := 30) kcX3 24 rfl q2859 dX3_numbers_30 hM.1 rfl ?_
      refine x_val (M := mX3_numbers) (pc := 33) (n1) ?_
      refine x_aload_n (M := mX3_numbers) (pc := 33) dX3_numbers_33 rfl ?_
      refine x_get (M := mX3_numbers) (pc := 34) kcX3 22 rfl q2857 dX3_numbers_34 hM.1 rfl ?_
      refine x_val (M := mX3_numbers) (pc := 37) (hnu) ?_
      refine xm_iast (M := mX3_numbers) (pc := 37) hM hF dX3_numbers_37 (by decide) (by first | decide | (simp only [mSz] <;> omega)) (fun h hM hF => ?_)
      refine x_aload_n (M := mX3_numbers) (pc := 38) dX3_numbers_38 rfl ?_
      refine x_dup (M := mX3_numbers) (pc := 39) dX3_numbers_39 ?_
      refine x_get (M := mX3_numbers) (pc := 40) kcX3 24 rfl q2859 dX3_numbers_40 hM.1 rfl ?_
      refine x_val (M := mX3_numbers) (pc := 43) (n1) ?_
      refine x_iconst (M := mX3_numbers) (pc := 43) (v := nI 1) dX3_numbers_43 (by decide) ?_
      first | with_reducible refine x_iaddN (M := mX3_numbers) (pc := 44) dX3_numbers_44 ?_ | refine x_iadd (M := mX3_numbers) (pc := 44) dX3_numbers_44 ?_
      refine xm_put24 (M := mX3_numbers) (pc := 45) hM hF q2859 dX3_numbers_45 (fun h hM hF => ?_)
      skip
      have hT' : TX (upd I 24 (nI (L0.length + 1))) (va_up B 23 (upd (B 23) L0.length (nI (t_nu tx len p)))) len tx := ⟨(upd_n _ _ (by decide)).trans hT.1, hT.2.1, by rw [va_up_n _ _ (by decide)]; exact hT.2.2.1, hT.2.2.2⟩
      have hsp := t_sp_le (tx := tx) k6
      refine x_aload_n (M := mX3_numbers) (pc := 48) dX3_numbers_48 rfl ?_
      refine x_V0 (M := mX3_numbers) (pc := 49) (M' := mX3_next) q3106 kVX3_next dX3_numbers_49 (m_next (d - 1) len (t_sp tx len p) tx (by omega) hT' ((upd_n _ _ (by decide)).trans k1) hsp h hM) (hM.is) (fun v_ h hq_ => ?_)
      obtain ⟨v_, I_, B_, wd_, hv_, hQ, hM_, hF_⟩ := hq_
      cases hv_
      replace hF := hF.tr hF_
      replace hM := hM_
      clear hM_ hF_
      have hTK := NX.tk hsp hQ
      have hTX := NX.tx hT' hQ
      obtain ⟨rfl, rfl, q1, -⟩ := hQ
      refine x_goto (M := mX3_numbers) (pc := 52) 9 dX3_numbers_52 (by decide) ?_
      refine ih (t_sp tx len p) (L0 ++ [t_nu tx len p]) (by rw [List.length_append]; show L0.length + 1 + q = most; omega) h _ _ _ ⟨hTX, hTK, fun j j1 j2 j3 j4 j5 => by rw [q1 j j1 j2 j3 j4, upd_n _ _ j5]; exact f1 j j1 j2 j3 j4 j5, fun j j1 => by rw [va_up_n _ _ j1]; exact f2 j j1, ?_, fun k hk => by rw [va_up_s]; exact getD_snoc n2 k hk⟩ hM hF (by rw [List.append_assoc]; exact hE)
      rw [q1 24 (by decide) (by decide) (by decide) (by decide), upd_s, List.length_append]; rfl
    · rw [t_ns, if_neg hkd, List.append_nil] at hE
      refine x_aload_n (M := mX3_numbers) (pc := 9) dX3_numbers_9 rfl ?_
      refine x_get (M := mX3_numbers) (pc := 10) kcX3 20 rfl q2855 dX3_numbers_10 hM.1 rfl ?_
      refine x_val (M := mX3_numbers) (pc := 13) (k2) ?_
      refine x_iconst (M := mX3_numbers) (pc := 13) (v := nI 2) dX3_numbers_13 (by decide) ?_
      first | with_reducible refine x_icmp_neN (M := mX3_numbers) (pc := 14) 55 dX3_numbers_14 (by decide) (by omega) (by omega) (fun c14 => ?_) (fun c14 => ?_) | refine x_icmp_ne (M := mX3_numbers) (pc := 14) 55 dX3_numbers_14 (by decide) (fun c14 => ?_) (fun c14 => ?_)
      · exact hE h I B wd hN hM hF
      · exact absurd c14 hkd
theorem m_numbers (d len p least most : Nat) (tx : Nat → Nat) (hd : 4 ≤ d) (hmost : most ≤ 4) (hleast : least ≤ 4) (hT : TX I B len tx) (hp : I 18 = nI p) (hpl : p ≤ len) : MC g l mX3_numbers d [.int (nI least), .int (nI most)] m A I B wd (fun v I' B' wd' => v = some (.int (bI (decide (least ≤ (t_ns tx len most p).1.length)))) ∧ NB I B I' B' wd' tx len (t_ns tx len most p).1 (t_ns tx len most p).2) := by
  intro h hM
  have hF : MF m A h h := MF.rf
  refine Ct.of [some (.ref m), some (.int (nI least)), some (.int (nI most))] (by decide +kernel) rfl (Nat.le_of_ble_eq_true rfl) rfl rfl ?_
  refine x_aload_n (M := mX3_numbers) (pc := 0) dX3_numbers_0 rfl ?_
  refine x_iconst (M := mX3_numbers) (pc := 1) (v := nI 0) dX3_numbers_1 (by decide) ?_
  refine xm_put24 (M := mX3_numbers) (pc := 2) hM hF q2859 dX3_numbers_2 (fun h hM hF => ?_)
  refine x_aload_n (M := mX3_numbers) (pc := 5) dX3_numbers_5 rfl ?_
  have hT' : TX (upd I 24 (nI 0)) B len tx := ⟨(upd_n _ _ (by decide)).trans hT.1, hT.2⟩
  refine x_V0 (M := mX3_numbers) (pc := 6) (M' := mX3_next) q3106 kVX3_next dX3_numbers_6 (m_next (d - 1) len p tx (by omega) hT' ((upd_n _ _ (by decide)).trans hp) hpl h hM) (hM.is) (fun v_ h hq_ => ?_)
  obtain ⟨v_, I_, B_, wd_, hv_, hQ, hM_, hF_⟩ := hq_
  cases hv_
  replace hF := hF.tr hF_
  replace hM := hM_
  clear hM_ hF_
  have hTK := NX.tk hpl hQ
  have hTX := NX.tx hT' hQ
  obtain ⟨rfl, hBB, q1, -⟩ := hQ
  refine m_numbers_l d len most tx hd hmost _ I B _ _ most p [] (Nat.zero_add _) h _ _ _ ⟨hTX, hTK, fun j j1 j2 j3 j4 j5 => by rw [q1 j j1 j2 j3 j4, upd_n _ _ j5], fun j j1 => by rw [hBB], ?_, fun k hk => absurd hk (Nat.not_lt_zero _)⟩ hM hF (fun h I1 B1 wd1 hN hM hF => ?_)
  · rw [q1 24 (by decide) (by decide) (by decide) (by decide), upd_s]; rfl
  have hlen : ∀ q p, (t_ns tx len q p).1.length ≤ q := fun q => by
    induction q with
    | zero => intro p; exact Nat.le_refl 0
    | succ q ih =>
      intro p; unfold t_ns; split
      · exact Nat.succ_le_succ (ih _)
      · exact Nat.zero_le _
  have := hlen most p
  rw [List.nil_append] at hN
  refine x_aload_n (M := mX3_numbers) (pc := 55) dX3_numbers_55 rfl ?_
  refine x_get (M := mX3_numbers) (pc := 56) kcX3 24 rfl q2859 dX3_numbers_56 hM.1 rfl ?_
  refine x_val (M := mX3_numbers) (pc := 59) (hN.2.2.2.2.1) ?_
  refine x_iload_n (M := mX3_numbers) (pc := 59) dX3_numbers_59 rfl ?_
  first | with_reducible refine x_icmp_ltN (M := mX3_numbers) (pc := 60) 67 dX3_numbers_60 (by decide) (by omega) (by omega) (fun c60 => ?_) (fun c60 => ?_) | refine x_icmp_lt (M := mX3_numbers) (pc := 60) 67 dX3_numbers_60 (by decide) (fun c60 => ?_) (fun c60 => ?_)
  · refine x_iconst (M := mX3_numbers) (pc := 67) (v := nI 0) dX3_numbers_67 (by decide) ?_
    refine x_zret (M := mX3_numbers) (pc := 68) dX3_numbers_68 rfl (by first | with_reducible exact xz0 | with_reducible exact xz1 | with_reducible exact bI_01 _ | with_reducible assumption | assumption) (Nat.le_refl 0) (Nat.le_refl 0) ⟨_, _, _, _, rfl, ?_, hM, hF⟩
    refine ⟨?_, hN⟩; first | exact vB1 (decide_eq_true (by omega)) | exact vB0 (decide_eq_false (by omega))
  · refine x_iconst (M := mX3_numbers) (pc := 63) (v := nI 1) dX3_numbers_63 (by decide) ?_
    refine x_goto (M := mX3_numbers) (pc := 64) 68 dX3_numbers_64 (by decide) ?_
    refine x_zret (M := mX3_numbers) (pc := 68) dX3_numbers_68 rfl (by first | with_reducible exact xz0 | with_reducible exact xz1 | with_reducible exact bI_01 _ | with_reducible assumption | assumption) (Nat.le_refl 0) (Nat.le_refl 0) ⟨_, _, _, _, rfl, ?_, hM, hF⟩
    refine ⟨?_, hN⟩; first | exact vB1 (decide_eq_true (by omega)) | exact vB0 (decide_eq_false (by omega))
end MODELR

/-! commands: carried out (5): all pages are printed -/
section CARRY5
set_option maxRecDepth 100000
variable {g : xG} {l : Launch} {h h0 h' : xH}
/-- a booklet depends on four numbers of its sheet -/
theorem BKL.row {bk sh : Nat} {s s' : Row} {ly : Nat → Lay} {La : Nat → Nat} {xs : List Nat} {J : List Jt} (hB : BKL g h bk sh s ly La xs J) (hs : ∀ j, j < 86 → s' j = s j) : BKL g h bk sh s' ly La xs J := by
  unfold BKL zHi zWi at hB ⊢
  rw [zN_c (hs 0 (by omega)), zN_c (hs 1 (by omega)), zN_c (hs 7 (by omega)), zN_c (hs 8 (by omega))]
  exact hB
/-- printing leaves the booklet's own cells -/
theorem BKL.pr {bk sh : Nat} {s : Row} {ly : Nat → Lay} {La : Nat → Nat} {xs sx sy : List Nat} {J : List Jt} {P : Nat → Nat} (hB : BKL g h bk sh s ly La xs J) (hS : SHP g h sh P s sx sy) (hW : WF s) (hl : xl3 (P 1) (P 2) (P 5) h h') : BKL g h' bk sh s ly La xs J := by
  obtain ⟨-, -, ⟨f3, p3, -⟩, ⟨f4, p4, -⟩, ⟨f5, p5, -⟩, -⟩ := hS
  obtain ⟨lv, jl, ja, cap, sb, h1, ⟨f, h2, h3⟩, h4, ⟨⟨m, ff, A⟩, A2, A3⟩, ⟨fs, h6, h7⟩⟩ := hB
  have hn : zHi s * zWi s + 1 ≠ 4 ∧ zHi s * zWi s + 1 ≠ 32 := by
    have := hW.ok
    simp only [p_ok, Bool.and_eq_true, Bool.or_eq_true, beq_iff_eq, decide_eq_true_eq] at this
    obtain ⟨⟨⟨a, b⟩, -⟩, -⟩ := this
    rcases a with (a | a) | a <;> rcases b with (b | b) | b <;> rw [a, b] <;> omega
  have K : ∀ a e, h a = some e → (∀ t n f, e ≠ .inl (t, n, .inl f)) → h' a = some e := fun a e ha hne => hl a e (fun z => by rw [z, p3] at ha; exact hne _ _ _ (Option.some.inj ha).symm) (fun z => by rw [z, p4] at ha; exact hne _ _ _ (Option.some.inj ha).symm) (fun z => by rw [z, p5] at ha; exact hne _ _ _ (Option.some.inj ha).symm) ha
  refine ⟨lv, jl, ja, cap, sb, K _ _ h1 (by intro _ _ _ z; cases z), ⟨f, K _ _ h2 (by intro _ _ _ z; cases z), h3⟩, fun t ht => K _ _ (h4 t ht) (by intro _ _ _ z; cases z), ⟨⟨m, ff, K _ _ A.1 (by intro _ _ _ z; cases z), A.2.1.imp (fun y => K _ _ y (by intro _ _ _ z; cases z)) id, A.2.2⟩, A2, fun k hk => K _ _ (A3 k hk) (by intro _ _ _ z; cases z)⟩, ⟨fs, hl _ _ (fun z => ?_) (fun z => ?_) (fun z => ?_) h6, h7⟩⟩
  · rw [z, p3] at h6; simp at h6; omega
  · rw [z, p4] at h6; simp at h6; omega
  · rw [z, p5] at h6; simp at h6; omega
theorem prA_87 (ly : Nat → Lay) (sp : Nat) (s : Row) : ∀ k, (p_prA ly sp s k).1 87 = s 87 + (p_prA ly sp s k).2
  | 0 => by show s 87 = s 87 + 0; rw [Int32.add_zero]
  | k + 1 => by
    have ih := prA_87 ly sp s k
    show p_prS _ _ _ _ 87 = _
    unfold p_prS
    rw [upd_s, ih]
    show _ = s 87 + ((p_prA ly sp s k).2 + _)
    rw [Int32.add_assoc]
theorem j_paL (hh : xH) (bk sh d : Nat) (hd : 4 ≤ d) (O : Nat → Prop) (P : Nat → Nat) (s : Row) (ly : Nat → Lay) (sx sy : List Nat) (La : Nat → Nat) (jx : List Nat) (J : List Jt) (hW : WF s) (hO : own g O sh P) (hp : (jP (zWi s) ly (zHi s * zWi s) (zHi s * zWi s)).Perm J) (hper : ∀ t, t < zHi s * zWi s → (ly t).1 < zHi s * zWi s ∧ lfA ly (zHi s * zWi s) (ly t).1 = t) (hJ32 : J.length ≤ 32) (Q : xO → xH → Prop) (hE : ∀ h, SHP g h sh P (p_prA ly (zN s 7) s (2 * (zHi s * zWi s))).1 sx sy → xlO O hh h → Q (.inl none) h) :
    ∀ n k, k + n = 2 * (zHi s * zWi s) → ∀ h, SHP g h sh P (p_prA ly (zN s 7) s k).1 sx sy → BKL g h bk sh (p_prA ly (zN s 7) s k).1 ly La jx J → xlO O hh h → X g l mX8_printAll d 0 0 Q 2 [some (.ref bk), some (.int (nI k))] [] h 0 0 := by
  have hb := hW.b
  intro n
  induction n with
  | zero =>
    intro k hk h hS hB hl
    have : k = 2 * (zHi s * zWi s) := by omega
    subst this
    obtain ⟨wk, ek⟩ := k_prA ly (zN s 7) (zHi s * zWi s) (fun t ht => by have := (hper t ht).1; omega) hb.2.2.2.2.1 hW _ (Nat.le_refl (2 * (zHi s * zWi s)))
    have z0 : zHi (p_prA ly (zN s 7) s (2 * (zHi s * zWi s))).1 = zHi s := zN_c (ek 0 (by omega))
    have z1 : zWi (p_prA ly (zN s 7) s (2 * (zHi s * zWi s))).1 = zWi s := zN_c (ek 1 (by omega))
    have hBS : BS g h bk sh (p_prA ly (zN s 7) s (2 * (zHi s * zWi s))).1 ly := ⟨P, sx, sy, La, jx, J, hB, hS, wk, by rw [z0, z1]; exact hp, by rw [z0, z1]; exact hper, hJ32⟩
    have c4 := c_pages (g := g) (l := l) h bk sh (d - 1) _ ly hBS
    rw [z0, z1] at c4
    refine x_iload_n (M := mX8_printAll) (pc := 2) dX8_printAll_2 rfl ?_
    refine x_aload_n (M := mX8_printAll) (pc := 3) dX8_printAll_3 rfl ?_
    refine x_V0 (M := mX8_printAll) (pc := 4) (M' := mX8_pages) q1281 kVX8_pages dX8_printAll_4 (c4) (hBS.is) (fun v_ h hq_ => ?_)
    obtain ⟨hv_, rfl⟩ := hq_; cases hv_
    first | with_reducible refine x_icmp_geN (M := mX8_printAll) (pc := 7) 35 dX8_printAll_7 (by decide) (by omega) (by omega) (fun c7 => ?_) (fun c7 => ?_) | refine x_icmp_ge (M := mX8_printAll) (pc := 7) 35 dX8_printAll_7 (by decide) (fun c7 => ?_) (fun c7 => ?_)
    · refine x_vret (M := mX8_printAll) (pc := 35) dX8_printAll_35 rfl (by first | exact Nat.le_of_ble_eq_true rfl | omega) (by first | exact Nat.le_of_ble_eq_true rfl | omega) ?_
      exact hE h hS hl
    · omega
  | succ n ih =>
    intro k hk h hS hB hl
    obtain ⟨wk, ek⟩ := k_prA ly (zN s 7) (zHi s * zWi s) (fun t ht => by have := (hper t ht).1; omega) hb.2.2.2.2.1 hW k (by omega)
    have hih := ih (k + 1) (by omega)
    have erow : (p_prA ly (zN s 7) s (k + 1)).1 = p_prS (p_prA ly (zN s 7) s k).1 (p_sd ly k) (nI k) (bI (p_tn ly (zN s 7) k)) := rfl
    rw [erow] at hih
    have z7 : zN (p_prA ly (zN s 7) s k).1 7 = zN s 7 := zN_c (ek 7 (by omega))
    have z0 : zHi (p_prA ly (zN s 7) s k).1 = zHi s := zN_c (ek 0 (by omega))
    have z1 : zWi (p_prA ly (zN s 7) s k).1 = zWi s := zN_c (ek 1 (by omega))
    generalize (p_prA ly (zN s 7) s k).1 = r at *
    have hBS : BS g h bk sh r ly := ⟨P, sx, sy, La, jx, J, hB, hS, wk, by rw [z0, z1]; exact hp, by rw [z0, z1]; exact hper, hJ32⟩
    have c4 := c_pages (g := g) (l := l) h bk sh (d - 1) _ ly hBS
    rw [z0, z1] at c4
    have c22 := c_isTurning (g := g) (l := l) h bk sh k (d - 1) _ ly hBS (by rw [z0, z1]; omega)
    rw [z7] at c22
    have hlt := p_sd_lt (s := s) (pg := k) (n := zHi s * zWi s) (by omega) (fun t ht => (hper t ht).1)
    have c25 := c_prS (g := g) (l := l) h sh (d - 1) (p_sd ly k) P r sx sy wk hS (by omega) (nI k) (bI (p_tn ly (zN s 7) k)) _ (Or.inr ⟨k, by omega, rfl⟩) (by unfold p_prT; rw [if_neg (nI_pos (by omega))])
    rw [show zNone (nI k) = nI k by unfold zNone; rw [if_neg (nI_pos (by omega))]] at c25
    have hbk : ∃ v1 v2 v3, h bk = some (.inr (8, [.ref sh, v1, v2, v3])) := by obtain ⟨lv, jl, ja, cap, sb, h1, -⟩ := hB; exact ⟨_, _, _, h1⟩
    obtain ⟨b1, b2, b3, hbk⟩ := hbk
    have wk' := k_prS wk (p_sd ly k) (by omega) (nI k) (bI (p_tn ly (zN s 7) k)) (Or.inr ⟨k, rfl, by omega⟩) ⟨_, rfl⟩
    refine x_iload_n (M := mX8_printAll) (pc := 2) dX8_printAll_2 rfl ?_
    refine x_aload_n (M := mX8_printAll) (pc := 3) dX8_printAll_3 rfl ?_
    refine x_V0 (M := mX8_printAll) (pc := 4) (M' := mX8_pages) q1281 kVX8_pages dX8_printAll_4 (c4) (hBS.is) (fun v_ h hq_ => ?_)
    obtain ⟨hv_, rfl⟩ := hq_; cases hv_
    first | with_reducible refine x_icmp_geN (M := mX8_printAll) (pc := 7) 35 dX8_printAll_7 (by decide) (by omega) (by omega) (fun c7 => ?_) (fun c7 => ?_) | refine x_icmp_ge (M := mX8_printAll) (pc := 7) 35 dX8_printAll_7 (by decide) (fun c7 => ?_) (fun c7 => ?_)
    omega
    refine x_aload_n (M := mX8_printAll) (pc := 10) dX8_printAll_10 rfl ?_
    refine x_get (M := mX8_printAll) (pc := 11) kcX8 0 rfl q1198 dX8_printAll_11 (by first | assumption | exact xu_s _ _ _ | exact (xu_n (by first | assumption | exact Ne.symm (by assumption) | exact xu_fresh (by assumption) (by assumption) | exact (xu_fresh (by assumption) (by assumption)).symm)).trans (by first | assumption | exact xu_s _ _ _ | exact (xu_n (by first | assumption | exact Ne.symm (by assumption) | exact xu_fresh (by assumption) (by assumption) | exact (xu_fresh (by assumption) (by assumption)).symm)).trans (by first | assumption | exact xu_s _ _ _ | exact (xu_n (by first | assumption | exact Ne.symm (by assumption) | exact xu_fresh (by assumption) (by assumption) | exact (xu_fresh (by assumption) (by assumption)).symm)).trans (by first | assumption | exact xu_s _ _ _)))) rfl ?_
    refine x_aload_n (M := mX8_printAll) (pc := 14) dX8_printAll_14 rfl ?_
    refine x_iload_n (M := mX8_printAll) (pc := 15) dX8_printAll_15 rfl ?_
    refine x_V1 (M := mX8_printAll) (pc := 16) (M' := mX8_sideOf) q1285 kVX8_sideOf dX8_printAll_16 (c_sideOfB h bk sh k (d - 1) (by omega) _ ly hBS (by rw [z0, z1]; omega)) (hBS.is) (fun v_ h hq_ => ?_)
    obtain ⟨hv_, rfl⟩ := hq_; cases hv_
    refine x_iload_n (M := mX8_printAll) (pc := 19) dX8_printAll_19 rfl ?_
    refine x_aload_n (M := mX8_printAll) (pc := 20) dX8_printAll_20 rfl ?_
    refine x_iload_n (M := mX8_printAll) (pc := 21) dX8_printAll_21 rfl ?_
    refine x_V1 (M := mX8_printAll) (pc := 22) (M' := mX8_isTurning) q1298 kVX8_isTurning dX8_printAll_22 (c22) (hBS.is) (fun v_ h hq_ => ?_)
    obtain ⟨hv_, rfl⟩ := hq_; cases hv_
    rotate_left
    refine x_V3 (M := mX8_printAll) (pc := 25) (M' := mX2_print) q1302 kVX2_print dX8_printAll_25 (c25) (hS.is) (fun v_ h2 hq_ => ?_)
    obtain ⟨hv_, q1, q2⟩ := hq_; cases hv_
    refine x_pop (M := mX8_printAll) (pc := 28) dX8_printAll_28 ?_
    first | refine x_iinc1N (M := mX8_printAll) (pc := 29) (c := 1) dX8_printAll_29 oI1 ?_ | refine x_iinc1 (M := mX8_printAll) (pc := 29) (c := 1) dX8_printAll_29 (by decide) ?_
    refine x_goto (M := mX8_printAll) (pc := 32) 2 dX8_printAll_32 (by decide) ?_
    exact hih h2 q1 ((hB.pr hS wk q2).row (fun j hj => prS_n r _ (by omega) _ _ j (Or.inl hj))) (hl.tr (xl3.own hS hO q2))
theorem cy_printAll (hh : xH) (cm sh d : Nat) (hd : 12 ≤ d) (O : Nat → Prop) (s : Row) (hW : WF s) (x v : Int32) (s' : Row) (hr : c_printAll s x = .inr (v, s')) (hS : SH g hh O sh s) (hc : hh cm = some (.inr (14, [.int x]))) : Ct g l mX15_carryOut d 138 411 [.ref cm, .ref sh] hh (fun o h' => o = .inl (some (.int v)) ∧ RS g O hh sh s' h') := by
  obtain ⟨P, xs, ys, hS, hO⟩ := hS
  have hb := hW.b
  unfold c_printAll at hr
  split at hr
  · cases hr
  · next q0 =>
    split at hr
    · cases hr
    · cases hr
      obtain ⟨n, rfl, hn, hrow⟩ := isRowI_n (eq_true_of_ne_false q0)
      rw [zBy_n hn]
      obtain ⟨r1, r2, r3⟩ := isRow_b hrow
      obtain ⟨hp, hper⟩ := ly_all hW.ok r2 r3
      have hsh := hS.1
      obtain ⟨f5, h5, v5⟩ := hS.2.2.2.2.1
      unfold shE at hsh
      have e5 : f5 1 = s 87 := v5 1 (by omega)
      refine Ct.of [some (.ref cm), some (.ref sh), none] (by decide +kernel) rfl (Nat.le_of_ble_eq_true rfl) rfl rfl ?_
      refine x_aload_n (M := mX15_carryOut) (pc := 0) dX15_carryOut_0 rfl ?_
      refine x_getN (M := mX15_carryOut) (pc := 1) kcX2 13 rfl q271 dX15_carryOut_1 (by first | assumption | exact xu_s _ _ _ | exact (xu_n (by first | assumption | exact Ne.symm (by assumption) | exact xu_fresh (by assumption) (by assumption) | exact (xu_fresh (by assumption) (by assumption)).symm)).trans (by first | assumption | exact xu_s _ _ _ | exact (xu_n (by first | assumption | exact Ne.symm (by assumption) | exact xu_fresh (by assumption) (by assumption) | exact (xu_fresh (by assumption) (by assumption)).symm)).trans (by first | assumption | exact xu_s _ _ _ | exact (xu_n (by first | assumption | exact Ne.symm (by assumption) | exact xu_fresh (by assumption) (by assumption) | exact (xu_fresh (by assumption) (by assumption)).symm)).trans (by first | assumption | exact xu_s _ _ _)))) rfl ?_
      refine x_iconst (M := mX15_carryOut) (pc := 4) (v := nI 1) dX15_carryOut_4 (by decide) ?_
      refine x_ialdN (M := mX15_carryOut) (pc := 5) _ dX15_carryOut_5 (by first | assumption | exact xu_s _ _ _ | exact (xu_n (by first | assumption | exact Ne.symm (by assumption) | exact xu_fresh (by assumption) (by assumption) | exact (xu_fresh (by assumption) (by assumption)).symm)).trans (by first | assumption | exact xu_s _ _ _ | exact (xu_n (by first | assumption | exact Ne.symm (by assumption) | exact xu_fresh (by assumption) (by assumption) | exact (xu_fresh (by assumption) (by assumption)).symm)).trans (by first | assumption | exact xu_s _ _ _ | exact (xu_n (by first | assumption | exact Ne.symm (by assumption) | exact xu_fresh (by assumption) (by assumption) | exact (xu_fresh (by assumption) (by assumption)).symm)).trans (by first | assumption | exact xu_s _ _ _)))) (by first | rfl | assumption) (by first | assumption | omega) (by first | decide | omega) ?_
      refine x_val (M := mX15_carryOut) (pc := 6) (e5) ?_
      refine x_istore2 (M := mX15_carryOut) (pc := 6) dX15_carryOut_6 ?_
      refine x_new (M := mX15_carryOut) (pc := 7) kcX8 q1271 dX15_carryOut_7 (by first | exact Nat.le_of_ble_eq_true rfl | omega) (by first | exact Nat.le_of_ble_eq_true rfl | omega) (fun q7_ hq7_ hb7_ => ?_)
      (try simp only [xu_noneI] at hq7_)
      repeat (obtain ⟨_, hq7_⟩ : _ ∧ _ := hq7_)
      refine x_dup (M := mX15_carryOut) (pc := 10) dX15_carryOut_10 ?_
      refine x_aload_n (M := mX15_carryOut) (pc := 11) dX15_carryOut_11 rfl ?_
      refine x_aload_n (M := mX15_carryOut) (pc := 12) dX15_carryOut_12 rfl ?_
      refine x_aload_n (M := mX15_carryOut) (pc := 13) dX15_carryOut_13 rfl ?_
      refine x_get (M := mX15_carryOut) (pc := 14) kcX15 0 rfl q1439 dX15_carryOut_14 (by first | assumption | exact xu_s _ _ _ | exact (xu_n (by first | assumption | exact Ne.symm (by assumption) | exact xu_fresh (by assumption) (by assumption) | exact (xu_fresh (by assumption) (by assumption)).symm)).trans (by first | assumption | exact xu_s _ _ _ | exact (xu_n (by first | assumption | exact Ne.symm (by assumption) | exact xu_fresh (by assumption) (by assumption) | exact (xu_fresh (by assumption) (by assumption)).symm)).trans (by first | assumption | exact xu_s _ _ _ | exact (xu_n (by first | assumption | exact Ne.symm (by assumption) | exact xu_fresh (by assumption) (by assumption) | exact (xu_fresh (by assumption) (by assumption)).symm)).trans (by first | assumption | exact xu_s _ _ _)))) rfl ?_
      have hS1 := hS.le (xle.fr (e := .inr (8, [.null, .null, .null, .null])) hq7_)
      refine x_V1 (M := mX15_carryOut) (pc := 17) (M' := mX2_foldedBy) q1272 kVX2_foldedBy dX15_carryOut_17 (c_foldedS _ sh n (d - 1) (by omega) P s hS1.1 hW hrow) (hS1.is) (fun v_ h2 hq_ => ?_)
      obtain ⟨fo, hv_, hF⟩ := hq_; cases hv_
      have hbk2 := hF.le _ _ (xu_s hh q7_ (.inr (8, [.null, .null, .null, .null])))
      have hS2 := hS1.le hF.le
      refine x_I2 (M := mX15_carryOut) (pc := 20) (M' := mX8_init) q1276 kIX8_init dX15_carryOut_20 (c_bkInit _ h2 q7_ sh fo (p_len n) (d - 1) (p_dig n) (by omega) P s hW _ _ _ _ hbk2 hS2.1 r2 r3 hF) (fun v_ h3 hq_ => ?_)
      obtain ⟨hv_, La, jx, w1, w2⟩ := hq_; cases hv_
      obtain ⟨hBS, hle⟩ := bk_done hq7_ hF hS hW r2 r3 w1 w2
      have hl32 := jL_len (zHi s) (zWi s) (p_layn (zHi s) (zWi s) (p_dig n) (p_len n)).2.2.2 (lfA (p_layn (zHi s) (zWi s) (p_dig n) (p_len n)).2.2.2 (zHi s * zWi s)) (zHi s * zWi s)
      have c23 : Ct g l mX8_printAll (d - 1) 0 0 [.ref q7_] h3 (fun o h' => o = .inl none ∧ SHP g h' sh P (p_prA (p_layn (zHi s) (zWi s) (p_dig n) (p_len n)).2.2.2 (zN s 7) s (2 * (zHi s * zWi s))).1 xs ys ∧ xlO O h3 h') := by
        refine Ct.of [some (.ref q7_), none] (by decide +kernel) rfl (Nat.le_of_ble_eq_true rfl) rfl rfl ?_
        refine x_iconst (M := mX8_printAll) (pc := 0) (v := nI 0) dX8_printAll_0 (by decide) ?_
        refine x_istore1 (M := mX8_printAll) (pc := 1) dX8_printAll_1 ?_
        exact j_paL h3 q7_ sh (d - 1) (by omega) O P s _ xs ys La jx _ hW hO hp (fun t ht => ⟨(hper t ht).1, (hper t ht).2.1⟩) (by omega) _ (fun h z1 z2 => ⟨rfl, z1, z2⟩) (2 * (zHi s * zWi s)) 0 (by omega) h3 (hS.le hle) w1 xlO.rf
      refine x_V0 (M := mX15_carryOut) (pc := 23) (M' := mX8_printAll) q1277 kVX8_printAll dX15_carryOut_23 (c23) (hBS.is) (fun v_ h4 hq_ => ?_)
      obtain ⟨hv_, q1, q2⟩ := hq_; cases hv_
      have hsh4 := q1.1
      obtain ⟨g5, k5, u5⟩ := q1.2.2.2.2.1
      unfold shE at hsh4
      have e87 := prA_87 (p_layn (zHi s) (zWi s) (p_dig n) (p_len n)).2.2.2 (zN s 7) s
      have hg1 : g5 1 = (p_prA (p_layn (zHi s) (zWi s) (p_dig n) (p_len n)).2.2.2 (zN s 7) s (2 * (zHi s * zWi s))).1 87 := u5 1 (by omega)
      refine x_aload_n (M := mX15_carryOut) (pc := 26) dX15_carryOut_26 rfl ?_
      refine x_getN (M := mX15_carryOut) (pc := 27) kcX2 13 rfl q271 dX15_carryOut_27 (by first | assumption | exact xu_s _ _ _ | exact (xu_n (by first | assumption | exact Ne.symm (by assumption) | exact xu_fresh (by assumption) (by assumption) | exact (xu_fresh (by assumption) (by assumption)).symm)).trans (by first | assumption | exact xu_s _ _ _ | exact (xu_n (by first | assumption | exact Ne.symm (by assumption) | exact xu_fresh (by assumption) (by assumption) | exact (xu_fresh (by assumption) (by assumption)).symm)).trans (by first | assumption | exact xu_s _ _ _ | exact (xu_n (by first | assumption | exact Ne.symm (by assumption) | exact xu_fresh (by assumption) (by assumption) | exact (xu_fresh (by assumption) (by assumption)).symm)).trans (by first | assumption | exact xu_s _ _ _)))) rfl ?_
      refine x_iconst (M := mX15_carryOut) (pc := 30) (v := nI 1) dX15_carryOut_30 (by decide) ?_
      refine x_ialdN (M := mX15_carryOut) (pc := 31) _ dX15_carryOut_31 (by first | assumption | exact xu_s _ _ _ | exact (xu_n (by first | assumption | exact Ne.symm (by assumption) | exact xu_fresh (by assumption) (by assumption) | exact (xu_fresh (by assumption) (by assumption)).symm)).trans (by first | assumption | exact xu_s _ _ _ | exact (xu_n (by first | assumption | exact Ne.symm (by assumption) | exact xu_fresh (by assumption) (by assumption) | exact (xu_fresh (by assumption) (by assumption)).symm)).trans (by first | assumption | exact xu_s _ _ _ | exact (xu_n (by first | assumption | exact Ne.symm (by assumption) | exact xu_fresh (by assumption) (by assumption) | exact (xu_fresh (by assumption) (by assumption)).symm)).trans (by first | assumption | exact xu_s _ _ _)))) (by first | rfl | assumption) (by first | assumption | omega) (by first | decide | omega) ?_
      refine x_iload_n (M := mX15_carryOut) (pc := 32) dX15_carryOut_32 rfl ?_
      first | with_reducible refine x_isubN (M := mX15_carryOut) (pc := 33) dX15_carryOut_33 (by omega) ?_ | refine x_isub (M := mX15_carryOut) (pc := 33) dX15_carryOut_33 ?_
      refine x_iret (M := mX15_carryOut) (pc := 34) dX15_carryOut_34 rfl (by first | exact Nat.le_of_ble_eq_true rfl | omega) (by first | exact Nat.le_of_ble_eq_true rfl | omega) ?_
      exact ⟨by rw [hg1, e87, Int32.add_comm, Int32.add_sub_cancel], ⟨P, xs, ys, q1, hO.on⟩, (xlO.le hle).tr q2⟩
end CARRY5

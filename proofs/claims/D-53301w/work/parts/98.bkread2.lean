/-! what a booklet tells of its joints -/
section BKREAD2
set_option maxRecDepth 100000
variable {g : xG} {l : Launch} {h h0 h' : xH}
theorem jt_all {wi n : Nat} {ly : Nat → Lay} {J : List Jt} (hp : (jP wi ly n n).Perm J) : ∀ x ∈ J, x.1 < x.2.1 ∧ x.2.1 < n ∧ x.2.2 < 4 := fun x hx => by
  have := (jP_mem _ (Nat.le_refl _)).mp (hp.mem_iff.mpr hx)
  exact ⟨this.2.1, this.2.2.1, p_edge_lt this.2.2.2⟩
def jCnt (c e : Nat) (J : List Jt) : Nat := J.countP (fun x => x.2.2 == e && jHas c x)
theorem jCnt_take {c e j : Nat} {J : List Jt} (hj : j < J.length) : jCnt c e (J.take (j + 1)) = jCnt c e (J.take j) + (if ((jD J j).2.2 == e && jHas c (jD J j)) = true then 1 else 0) := by
  rw [jCnt, take_s hj, List.countP_append, jCnt, List.countP_cons, List.countP_nil]; simp
theorem jCnt_le {c e : Nat} {J : List Jt} : jCnt c e J ≤ J.length := List.countP_le_length
theorem jCnt_eq {c e wi n : Nat} {ly : Nat → Lay} {J : List Jt} (hp : (jP wi ly n n).Perm J) : jCnt c e J = if c.testBit e then 0 else p_prs wi ly n e := by
  rw [p_prs, ← jP_cnt (n := n) n, hp.countP_eq, jCnt]
  by_cases q : c.testBit e = true
  · rw [if_pos q, List.countP_eq_zero]
    intro x _
    simp only [jHas, Bool.and_eq_true, beq_iff_eq, Bool.not_eq_true', not_and, Bool.not_eq_false]
    intro z; rw [z]; exact q
  · rw [if_neg q]
    apply List.countP_congr
    intro x _
    simp only [jHas, Bool.and_eq_true, beq_iff_eq, Bool.not_eq_true']
    exact ⟨fun z => z.1, fun z => ⟨z, by rw [z]; simpa using q⟩⟩
theorem hg1 {x e : Nat} {b : Bool} (c : x ≠ e) : nI 0 = nI (if (x == e && b) = true then 1 else 0) := by rw [if_neg (by simp [c])]
theorem hg2 {x e : Nat} {b : Bool} (c : b = false) : nI 0 = nI (if (x == e && b) = true then 1 else 0) := by rw [if_neg (by simp [c])]
theorem hg3 {x e : Nat} {b : Bool} (c : x = e) (c2 : b = true) : nI 1 = nI (if (x == e && b) = true then 1 else 0) := by rw [if_pos (by simp [c, c2])]
theorem j_hgL (h : xH) (bk sh d e : Nat) (hd : 3 ≤ d) (he : e < 100) (s : Row) (ly : Nat → Lay) (P : Nat → Nat) (sx sy : List Nat) (lv jl ja cap sb : Nat) (xs : List Nat) (J : List Jt) (hW : WF s) (hbk : h bk = some (.inr (8, [.ref sh, .ref lv, .ref jl, .ref sb]))) (hS : SHP g h sh P s sx sy) (hJO : JO g h jl ja cap xs J) (hall : ∀ x ∈ J, x.1 < x.2.1 ∧ x.2.1 < zHi s * zWi s ∧ x.2.2 < 4) (hJ32 : J.length ≤ 32) (Q : xO → xH → Prop) (hE : Q (.inl (some (.int (nI (jCnt (zN s 8) e J))))) h) :
    ∀ m j, j + m = J.length → X g l mX8_hanging d 0 0 Q 4 [some (.ref bk), some (.int (nI e)), some (.int (nI (jCnt (zN s 8) e (J.take j)))), some (.int (nI j))] [] h 0 0 := by
  have hlen := hJO.2.1
  have hal := hJO.1.al
  intro m
  induction m with
  | zero =>
    intro j hj
    have : j = J.length := by omega
    subst this
    rw [List.take_length]
    refine x_iload_n (M := mX8_hanging) (pc := 4) dX8_hanging_4 rfl ?_
    refine x_aload_n (M := mX8_hanging) (pc := 5) dX8_hanging_5 rfl ?_
    refine x_get (M := mX8_hanging) (pc := 6) kcX8 2 rfl q1202 dX8_hanging_6 (by first | assumption | exact xu_s _ _ _ | exact (xu_n (by first | assumption | exact Ne.symm (by assumption) | exact xu_fresh (by assumption) (by assumption) | exact (xu_fresh (by assumption) (by assumption)).symm)).trans (by first | assumption | exact xu_s _ _ _ | exact (xu_n (by first | assumption | exact Ne.symm (by assumption) | exact xu_fresh (by assumption) (by assumption) | exact (xu_fresh (by assumption) (by assumption)).symm)).trans (by first | assumption | exact xu_s _ _ _ | exact (xu_n (by first | assumption | exact Ne.symm (by assumption) | exact xu_fresh (by assumption) (by assumption) | exact (xu_fresh (by assumption) (by assumption)).symm)).trans (by first | assumption | exact xu_s _ _ _)))) rfl ?_
    refine x_V0 (M := mX8_hanging) (pc := 9) (M' := mJ2_size) q1162 kVJ2_size dX8_hanging_9 (j_size h jl ja (d - 1) xs hal) (hal.is) (fun v_ h hq_ => ?_)
    obtain ⟨hv_, rfl⟩ := hq_; cases hv_
    first | with_reducible refine x_icmp_geN (M := mX8_hanging) (pc := 12) 65 dX8_hanging_12 (by decide) (by omega) (by omega) (fun c12 => ?_) (fun c12 => ?_) | refine x_icmp_ge (M := mX8_hanging) (pc := 12) 65 dX8_hanging_12 (by decide) (fun c12 => ?_) (fun c12 => ?_)
    · refine x_iload_n (M := mX8_hanging) (pc := 65) dX8_hanging_65 rfl ?_
      refine x_iret (M := mX8_hanging) (pc := 66) dX8_hanging_66 rfl (by first | exact Nat.le_of_ble_eq_true rfl | omega) (by first | exact Nat.le_of_ble_eq_true rfl | omega) ?_
      exact hE
    · omega
  | succ m ih =>
    intro j hj
    have hjl : j < J.length := by omega
    have hjt := hJO.2.2 j hjl
    obtain ⟨x1, x2, x3⟩ := hall _ (jD_mem hjl)
    have his := xIs.of (g := g) kcX9 hjt
    have hst := jCnt_take (c := zN s 8) (e := e) hjl
    refine x_iload_n (M := mX8_hanging) (pc := 4) dX8_hanging_4 rfl ?_
    refine x_aload_n (M := mX8_hanging) (pc := 5) dX8_hanging_5 rfl ?_
    refine x_get (M := mX8_hanging) (pc := 6) kcX8 2 rfl q1202 dX8_hanging_6 (by first | assumption | exact xu_s _ _ _ | exact (xu_n (by first | assumption | exact Ne.symm (by assumption) | exact xu_fresh (by assumption) (by assumption) | exact (xu_fresh (by assumption) (by assumption)).symm)).trans (by first | assumption | exact xu_s _ _ _ | exact (xu_n (by first | assumption | exact Ne.symm (by assumption) | exact xu_fresh (by assumption) (by assumption) | exact (xu_fresh (by assumption) (by assumption)).symm)).trans (by first | assumption | exact xu_s _ _ _ | exact (xu_n (by first | assumption | exact Ne.symm (by assumption) | exact xu_fresh (by assumption) (by assumption) | exact (xu_fresh (by assumption) (by assumption)).symm)).trans (by first | assumption | exact xu_s _ _ _)))) rfl ?_
    refine x_V0 (M := mX8_hanging) (pc := 9) (M' := mJ2_size) q1162 kVJ2_size dX8_hanging_9 (j_size h jl ja (d - 1) xs hal) (hal.is) (fun v_ h hq_ => ?_)
    obtain ⟨hv_, rfl⟩ := hq_; cases hv_
    first | with_reducible refine x_icmp_geN (M := mX8_hanging) (pc := 12) 65 dX8_hanging_12 (by decide) (by omega) (by omega) (fun c12 => ?_) (fun c12 => ?_) | refine x_icmp_ge (M := mX8_hanging) (pc := 12) 65 dX8_hanging_12 (by decide) (fun c12 => ?_) (fun c12 => ?_)
    omega
    refine x_iload_n (M := mX8_hanging) (pc := 15) dX8_hanging_15 rfl ?_
    refine x_joinV 57 (nI (if ((jD J j).2.2 == e && jHas (zN s 8) (jD J j)) = true then 1 else 0)) (fun J => ?_) ?_
    · refine x_aload_n (M := mX8_hanging) (pc := 16) dX8_hanging_16 rfl ?_
      refine x_get (M := mX8_hanging) (pc := 17) kcX8 2 rfl q1202 dX8_hanging_17 (by first | assumption | exact xu_s _ _ _ | exact (xu_n (by first | assumption | exact Ne.symm (by assumption) | exact xu_fresh (by assumption) (by assumption) | exact (xu_fresh (by assumption) (by assumption)).symm)).trans (by first | assumption | exact xu_s _ _ _ | exact (xu_n (by first | assumption | exact Ne.symm (by assumption) | exact xu_fresh (by assumption) (by assumption) | exact (xu_fresh (by assumption) (by assumption)).symm)).trans (by first | assumption | exact xu_s _ _ _ | exact (xu_n (by first | assumption | exact Ne.symm (by assumption) | exact xu_fresh (by assumption) (by assumption) | exact (xu_fresh (by assumption) (by assumption)).symm)).trans (by first | assumption | exact xu_s _ _ _)))) rfl ?_
      refine x_iload_n (M := mX8_hanging) (pc := 20) dX8_hanging_20 rfl ?_
      refine x_V1 (M := mX8_hanging) (pc := 21) (M' := mJ2_get) q1163 kVJ2_get dX8_hanging_21 (j_get h jl ja (d - 1) (by omega) xs hal (by omega) j (by omega)) (hal.is) (fun v_ h hq_ => ?_)
      obtain ⟨hv_, rfl⟩ := hq_; cases hv_
      refine x_cast (M := mX8_hanging) (pc := 24) q1143 dX8_hanging_24 (his) (Or.inl rfl) ?_
      refine x_V0 (M := mX8_hanging) (pc := 27) (M' := mX9_edge) q1181 kVX9_edge dX8_hanging_27 (c_jtD h _ (d - 1) _ hjt) (his) (fun v_ h hq_ => ?_)
      obtain ⟨hv_, rfl⟩ := hq_; cases hv_
      refine x_iload_n (M := mX8_hanging) (pc := 30) dX8_hanging_30 rfl ?_
      first | with_reducible refine x_icmp_neN (M := mX8_hanging) (pc := 31) 56 dX8_hanging_31 (by decide) (by omega) (by omega) (fun c31 => ?_) (fun c31 => ?_) | refine x_icmp_ne (M := mX8_hanging) (pc := 31) 56 dX8_hanging_31 (by decide) (fun c31 => ?_) (fun c31 => ?_)
      · refine x_iconst (M := mX8_hanging) (pc := 56) (v := nI 0) dX8_hanging_56 (by decide) ?_
        exact J _ (by first | exact hg1 c31 | exact hg2 c49 | exact hg3 c31 c49)
      · refine x_aload_n (M := mX8_hanging) (pc := 34) dX8_hanging_34 rfl ?_
        refine x_aload_n (M := mX8_hanging) (pc := 35) dX8_hanging_35 rfl ?_
        refine x_get (M := mX8_hanging) (pc := 36) kcX8 2 rfl q1202 dX8_hanging_36 (by first | assumption | exact xu_s _ _ _ | exact (xu_n (by first | assumption | exact Ne.symm (by assumption) | exact xu_fresh (by assumption) (by assumption) | exact (xu_fresh (by assumption) (by assumption)).symm)).trans (by first | assumption | exact xu_s _ _ _ | exact (xu_n (by first | assumption | exact Ne.symm (by assumption) | exact xu_fresh (by assumption) (by assumption) | exact (xu_fresh (by assumption) (by assumption)).symm)).trans (by first | assumption | exact xu_s _ _ _ | exact (xu_n (by first | assumption | exact Ne.symm (by assumption) | exact xu_fresh (by assumption) (by assumption) | exact (xu_fresh (by assumption) (by assumption)).symm)).trans (by first | assumption | exact xu_s _ _ _)))) rfl ?_
        refine x_iload_n (M := mX8_hanging) (pc := 39) dX8_hanging_39 rfl ?_
        refine x_V1 (M := mX8_hanging) (pc := 40) (M' := mJ2_get) q1163 kVJ2_get dX8_hanging_40 (j_get h jl ja (d - 1) (by omega) xs hal (by omega) j (by omega)) (hal.is) (fun v_ h hq_ => ?_)
        obtain ⟨hv_, rfl⟩ := hq_; cases hv_
        refine x_cast (M := mX8_hanging) (pc := 43) q1143 dX8_hanging_43 (his) (Or.inl rfl) ?_
        refine x_V1 (M := mX8_hanging) (pc := 46) (M' := mX8_isHeld) q1177 kVX8_isHeld dX8_hanging_46 (c_isHeld h bk sh _ (d - 1) (by omega) _ _ _ P s hW _ x3 hbk hS.1 hjt) (xIs.of kcX8 hbk) (fun v_ h hq_ => ?_)
        obtain ⟨hv_, rfl⟩ := hq_; cases hv_
        first | with_reducible refine x_ifB_eq (M := mX8_hanging) (pc := 49) 56 dX8_hanging_49 (by decide) (fun c49 => ?_) (fun c49 => ?_) | with_reducible refine x_if_eqN (M := mX8_hanging) (pc := 49) 56 dX8_hanging_49 (by decide) (by omega) (fun c49 => ?_) (fun c49 => ?_) | refine x_if_eq (M := mX8_hanging) (pc := 49) 56 dX8_hanging_49 (by decide) (fun c49 => ?_) (fun c49 => ?_)
        · refine x_iconst (M := mX8_hanging) (pc := 56) (v := nI 0) dX8_hanging_56 (by decide) ?_
          exact J _ (by first | exact hg1 c31 | exact hg2 c49 | exact hg3 c31 c49)
        · refine x_iconst (M := mX8_hanging) (pc := 52) (v := nI 1) dX8_hanging_52 (by decide) ?_
          refine x_goto (M := mX8_hanging) (pc := 53) 57 dX8_hanging_53 (by decide) ?_
          exact J _ (by first | exact hg1 c31 | exact hg2 c49 | exact hg3 c31 c49)
    first | with_reducible refine x_iaddN (M := mX8_hanging) (pc := 57) dX8_hanging_57 ?_ | refine x_iadd (M := mX8_hanging) (pc := 57) dX8_hanging_57 ?_
    refine x_istore2 (M := mX8_hanging) (pc := 58) dX8_hanging_58 ?_
    rotate_left
    first | refine x_iinc3N (M := mX8_hanging) (pc := 59) (c := 1) dX8_hanging_59 oI1 ?_ | refine x_iinc3 (M := mX8_hanging) (pc := 59) (c := 1) dX8_hanging_59 (by decide) ?_
    refine x_goto (M := mX8_hanging) (pc := 62) 4 dX8_hanging_62 (by decide) ?_
    rw [← hst]
    exact ih (j + 1) (by omega)
theorem c_hangingB (h : xH) (bk sh d e : Nat) (hd : 3 ≤ d) (he : e < 100) (s : Row) (ly : Nat → Lay) (hB : BS g h bk sh s ly) : Ct g l mX8_hanging d 0 0 [.ref bk, .int (nI e)] h (fun o h' => o = .inl (some (.int (nI (if (zN s 8).testBit e then 0 else p_prs (zWi s) ly (zHi s * zWi s) e)))) ∧ h' = h) := by
  obtain ⟨P, sx, sy, La, xs, J, ⟨lv, jl, ja, cap, sb, hbk, ⟨f, hlv, hf⟩, hly, hJO, hsb⟩, hS, hW, hp, hper, hJ32⟩ := hB
  rw [← jCnt_eq hp]
  refine Ct.of [some (.ref bk), some (.int (nI e)), none, none] (by decide +kernel) rfl (Nat.le_of_ble_eq_true rfl) rfl rfl ?_
  refine x_iconst (M := mX8_hanging) (pc := 0) (v := nI 0) dX8_hanging_0 (by decide) ?_
  refine x_istore2 (M := mX8_hanging) (pc := 1) dX8_hanging_1 ?_
  refine x_iconst (M := mX8_hanging) (pc := 2) (v := nI 0) dX8_hanging_2 (by decide) ?_
  refine x_istore3 (M := mX8_hanging) (pc := 3) dX8_hanging_3 ?_
  exact j_hgL h bk sh d e hd he s ly P sx sy lv jl ja cap sb xs J hW hbk hS hJO (jt_all hp) hJ32 _ ⟨rfl, rfl⟩ J.length 0 (by omega)
theorem orL_tk_lt {J : List Jt} (f : Jt → Nat) (hf : ∀ x ∈ J, f x < 2 ^ 4) (j : Nat) : orL f (J.take j) < 2 ^ 4 := orL_lt _ (fun x hx => hf x (List.mem_of_mem_take hx))
theorem j_tgL (h : xH) (bk sh d a b : Nat) (hd : 3 ≤ d) (ha : a < 100) (hb : b < 100) (s : Row) (ly : Nat → Lay) (P : Nat → Nat) (sx sy : List Nat) (lv jl ja cap sb : Nat) (xs : List Nat) (J : List Jt) (hW : WF s) (hbk : h bk = some (.inr (8, [.ref sh, .ref lv, .ref jl, .ref sb]))) (hS : SHP g h sh P s sx sy) (hJO : JO g h jl ja cap xs J) (hall : ∀ x ∈ J, x.1 < x.2.1 ∧ x.2.1 < zHi s * zWi s ∧ x.2.2 < 4) (hJ32 : J.length ≤ 32) (Q : xO → xH → Prop) (hE : Q (.inl (some (.int (nI (orL (jTog (zN s 8) a b) J))))) h) :
    ∀ m j l5 l6, j + m = J.length → X g l mX8_together d 0 0 Q 5 [some (.ref bk), some (.int (nI a)), some (.int (nI b)), some (.int (nI (orL (jTog (zN s 8) a b) (J.take j)))), some (.int (nI j)), l5, l6] [] h 0 0 := by
  have hlen := hJO.2.1
  have hal := hJO.1.al
  have hWb := hW.b
  intro m
  induction m with
  | zero =>
    intro j l5 l6 hj
    have : j = J.length := by omega
    subst this
    rw [List.take_length]
    refine x_iload (M := mX8_together) (pc := 5) dX8_together_5 rfl ?_
    refine x_aload_n (M := mX8_together) (pc := 7) dX8_together_7 rfl ?_
    refine x_get (M := mX8_together) (pc := 8) kcX8 2 rfl q1202 dX8_together_8 (by first | assumption | exact xu_s _ _ _ | exact (xu_n (by first | assumption | exact Ne.symm (by assumption) | exact xu_fresh (by assumption) (by assumption) | exact (xu_fresh (by assumption) (by assumption)).symm)).trans (by first | assumption | exact xu_s _ _ _ | exact (xu_n (by first | assumption | exact Ne.symm (by assumption) | exact xu_fresh (by assumption) (by assumption) | exact (xu_fresh (by assumption) (by assumption)).symm)).trans (by first | assumption | exact xu_s _ _ _ | exact (xu_n (by first | assumption | exact Ne.symm (by assumption) | exact xu_fresh (by assumption) (by assumption) | exact (xu_fresh (by assumption) (by assumption)).symm)).trans (by first | assumption | exact xu_s _ _ _)))) rfl ?_
    refine x_V0 (M := mX8_together) (pc := 11) (M' := mJ2_size) q1162 kVJ2_size dX8_together_11 (j_size h jl ja (d - 1) xs hal) (hal.is) (fun v_ h hq_ => ?_)
    obtain ⟨hv_, rfl⟩ := hq_; cases hv_
    first | with_reducible refine x_icmp_geN (M := mX8_together) (pc := 14) 98 dX8_together_14 (by decide) (by omega) (by omega) (fun c14 => ?_) (fun c14 => ?_) | refine x_icmp_ge (M := mX8_together) (pc := 14) 98 dX8_together_14 (by decide) (fun c14 => ?_) (fun c14 => ?_)
    · refine x_iload_n (M := mX8_together) (pc := 98) dX8_together_98 rfl ?_
      refine x_iret (M := mX8_together) (pc := 99) dX8_together_99 rfl (by first | exact Nat.le_of_ble_eq_true rfl | omega) (by first | exact Nat.le_of_ble_eq_true rfl | omega) ?_
      exact hE
    · omega
  | succ m ih =>
    intro j l5 l6 hj
    have hjl : j < J.length := by omega
    have hjt := hJO.2.2 j hjl
    obtain ⟨x1, x2, x3⟩ := hall _ (jD_mem hjl)
    have his := xIs.of (g := g) kcX9 hjt
    have hst := orL_take (jTog (zN s 8) a b) hjl
    refine x_iload (M := mX8_together) (pc := 5) dX8_together_5 rfl ?_
    refine x_aload_n (M := mX8_together) (pc := 7) dX8_together_7 rfl ?_
    refine x_get (M := mX8_together) (pc := 8) kcX8 2 rfl q1202 dX8_together_8 (by first | assumption | exact xu_s _ _ _ | exact (xu_n (by first | assumption | exact Ne.symm (by assumption) | exact xu_fresh (by assumption) (by assumption) | exact (xu_fresh (by assumption) (by assumption)).symm)).trans (by first | assumption | exact xu_s _ _ _ | exact (xu_n (by first | assumption | exact Ne.symm (by assumption) | exact xu_fresh (by assumption) (by assumption) | exact (xu_fresh (by assumption) (by assumption)).symm)).trans (by first | assumption | exact xu_s _ _ _ | exact (xu_n (by first | assumption | exact Ne.symm (by assumption) | exact xu_fresh (by assumption) (by assumption) | exact (xu_fresh (by assumption) (by assumption)).symm)).trans (by first | assumption | exact xu_s _ _ _)))) rfl ?_
    refine x_V0 (M := mX8_together) (pc := 11) (M' := mJ2_size) q1162 kVJ2_size dX8_together_11 (j_size h jl ja (d - 1) xs hal) (hal.is) (fun v_ h hq_ => ?_)
    obtain ⟨hv_, rfl⟩ := hq_; cases hv_
    first | with_reducible refine x_icmp_geN (M := mX8_together) (pc := 14) 98 dX8_together_14 (by decide) (by omega) (by omega) (fun c14 => ?_) (fun c14 => ?_) | refine x_icmp_ge (M := mX8_together) (pc := 14) 98 dX8_together_14 (by decide) (fun c14 => ?_) (fun c14 => ?_)
    omega
    refine x_aload_n (M := mX8_together) (pc := 17) dX8_together_17 rfl ?_
    refine x_get (M := mX8_together) (pc := 18) kcX8 2 rfl q1202 dX8_together_18 (by first | assumption | exact xu_s _ _ _ | exact (xu_n (by first | assumption | exact Ne.symm (by assumption) | exact xu_fresh (by assumption) (by assumption) | exact (xu_fresh (by assumption) (by assumption)).symm)).trans (by first | assumption | exact xu_s _ _ _ | exact (xu_n (by first | assumption | exact Ne.symm (by assumption) | exact xu_fresh (by assumption) (by assumption) | exact (xu_fresh (by assumption) (by assumption)).symm)).trans (by first | assumption | exact xu_s _ _ _ | exact (xu_n (by first | assumption | exact Ne.symm (by assumption) | exact xu_fresh (by assumption) (by assumption) | exact (xu_fresh (by assumption) (by assumption)).symm)).trans (by first | assumption | exact xu_s _ _ _)))) rfl ?_
    refine x_iload (M := mX8_together) (pc := 21) dX8_together_21 rfl ?_
    refine x_V1 (M := mX8_together) (pc := 23) (M' := mJ2_get) q1163 kVJ2_get dX8_together_23 (j_get h jl ja (d - 1) (by omega) xs hal (by omega) j (by omega)) (hal.is) (fun v_ h hq_ => ?_)
    obtain ⟨hv_, rfl⟩ := hq_; cases hv_
    refine x_cast (M := mX8_together) (pc := 26) q1143 dX8_together_26 (his) (Or.inl rfl) ?_
    refine x_astore5 (M := mX8_together) (pc := 29) dX8_together_29 ?_
    refine x_joinV 62 (bI (decide ((jD J j).1 = min a b ∧ (jD J j).2.1 = max a b))) (fun J => ?_) ?_
    · refine x_aload (M := mX8_together) (pc := 31) dX8_together_31 rfl ?_
      refine x_V0 (M := mX8_together) (pc := 33) (M' := mX9_upper) q1190 kVX9_upper dX8_together_33 (c_jtU h _ (d - 1) _ hjt) (his) (fun v_ h hq_ => ?_)
      obtain ⟨hv_, rfl⟩ := hq_; cases hv_
      refine x_iload_n (M := mX8_together) (pc := 36) dX8_together_36 rfl ?_
      refine x_iload_n (M := mX8_together) (pc := 37) dX8_together_37 rfl ?_
      refine x_mmin (M := mX8_together) (pc := 38) q1145 dX8_together_38 (by omega) (by omega) (by first | assumption | omega) (by first | exact Nat.le_of_ble_eq_true rfl | omega) (by first | exact Nat.le_of_ble_eq_true rfl | omega) (by first | exact Nat.le_of_ble_eq_true rfl | (simp [xcat_rf, Value.category])) ?_
      first | with_reducible refine x_icmp_neN (M := mX8_together) (pc := 41) 61 dX8_together_41 (by decide) (by omega) (by omega) (fun c41 => ?_) (fun c41 => ?_) | refine x_icmp_ne (M := mX8_together) (pc := 41) 61 dX8_together_41 (by decide) (fun c41 => ?_) (fun c41 => ?_)
      · refine x_iconst (M := mX8_together) (pc := 61) (v := nI 0) dX8_together_61 (by decide) ?_
        exact J _ (by first | rw [decide_eq_false (fun z => c41 z.1)]; rfl | rw [decide_eq_false (fun z => c54 z.2)]; rfl | rw [decide_eq_true ⟨c41, c54⟩]; rfl)
      · refine x_aload (M := mX8_together) (pc := 44) dX8_together_44 rfl ?_
        refine x_V0 (M := mX8_together) (pc := 46) (M' := mX9_lower) q1194 kVX9_lower dX8_together_46 (c_jtL h _ (d - 1) _ hjt) (his) (fun v_ h hq_ => ?_)
        obtain ⟨hv_, rfl⟩ := hq_; cases hv_
        refine x_iload_n (M := mX8_together) (pc := 49) dX8_together_49 rfl ?_
        refine x_iload_n (M := mX8_together) (pc := 50) dX8_together_50 rfl ?_
        refine x_mmax (M := mX8_together) (pc := 51) q1146 dX8_together_51 (by omega) (by omega) (by first | assumption | omega) (by first | exact Nat.le_of_ble_eq_true rfl | omega) (by first | exact Nat.le_of_ble_eq_true rfl | omega) (by first | exact Nat.le_of_ble_eq_true rfl | (simp [xcat_rf, Value.category])) ?_
        first | with_reducible refine x_icmp_neN (M := mX8_together) (pc := 54) 61 dX8_together_54 (by decide) (by omega) (by omega) (fun c54 => ?_) (fun c54 => ?_) | refine x_icmp_ne (M := mX8_together) (pc := 54) 61 dX8_together_54 (by decide) (fun c54 => ?_) (fun c54 => ?_)
        · refine x_iconst (M := mX8_together) (pc := 61) (v := nI 0) dX8_together_61 (by decide) ?_
          exact J _ (by first | rw [decide_eq_false (fun z => c41 z.1)]; rfl | rw [decide_eq_false (fun z => c54 z.2)]; rfl | rw [decide_eq_true ⟨c41, c54⟩]; rfl)
        · refine x_iconst (M := mX8_together) (pc := 57) (v := nI 1) dX8_together_57 (by decide) ?_
          refine x_goto (M := mX8_together) (pc := 58) 62 dX8_together_58 (by decide) ?_
          exact J _ (by first | rw [decide_eq_false (fun z => c41 z.1)]; rfl | rw [decide_eq_false (fun z => c54 z.2)]; rfl | rw [decide_eq_true ⟨c41, c54⟩]; rfl)
    refine x_istore6 (M := mX8_together) (pc := 62) dX8_together_62 ?_
    refine x_iload_n (M := mX8_together) (pc := 64) dX8_together_64 rfl ?_
    refine x_joinV 90 (nI (jTog (zN s 8) a b (jD J j))) (fun J => ?_) ?_
    · refine x_iload (M := mX8_together) (pc := 65) dX8_together_65 rfl ?_
      first | with_reducible refine x_ifB_eq (M := mX8_together) (pc := 67) 89 dX8_together_67 (by decide) (fun c67 => ?_) (fun c67 => ?_) | with_reducible refine x_if_eqN (M := mX8_together) (pc := 67) 89 dX8_together_67 (by decide) (by omega) (fun c67 => ?_) (fun c67 => ?_) | refine x_if_eq (M := mX8_together) (pc := 67) 89 dX8_together_67 (by decide) (fun c67 => ?_) (fun c67 => ?_)
      · refine x_iconst (M := mX8_together) (pc := 89) (v := nI 0) dX8_together_89 (by decide) ?_
        exact J _ (by simp [jTog, *])
      · refine x_aload_n (M := mX8_together) (pc := 70) dX8_together_70 rfl ?_
        refine x_aload (M := mX8_together) (pc := 71) dX8_together_71 rfl ?_
        refine x_V1 (M := mX8_together) (pc := 73) (M' := mX8_isHeld) q1177 kVX8_isHeld dX8_together_73 (c_isHeld h bk sh _ (d - 1) (by omega) _ _ _ P s hW _ x3 hbk hS.1 hjt) (xIs.of kcX8 hbk) (fun v_ h hq_ => ?_)
        obtain ⟨hv_, rfl⟩ := hq_; cases hv_
        first | with_reducible refine x_ifB_eq (M := mX8_together) (pc := 76) 89 dX8_together_76 (by decide) (fun c76 => ?_) (fun c76 => ?_) | with_reducible refine x_if_eqN (M := mX8_together) (pc := 76) 89 dX8_together_76 (by decide) (by omega) (fun c76 => ?_) (fun c76 => ?_) | refine x_if_eq (M := mX8_together) (pc := 76) 89 dX8_together_76 (by decide) (fun c76 => ?_) (fun c76 => ?_)
        · refine x_iconst (M := mX8_together) (pc := 89) (v := nI 0) dX8_together_89 (by decide) ?_
          exact J _ (by simp [jTog, *])
        · refine x_iconst (M := mX8_together) (pc := 79) (v := 1) dX8_together_79 (by decide) ?_
          refine x_aload (M := mX8_together) (pc := 80) dX8_together_80 rfl ?_
          refine x_V0 (M := mX8_together) (pc := 82) (M' := mX9_edge) q1181 kVX9_edge dX8_together_82 (c_jtD h _ (d - 1) _ hjt) (his) (fun v_ h hq_ => ?_)
          obtain ⟨hv_, rfl⟩ := hq_; cases hv_
          refine x_ishl (M := mX8_together) (pc := 85) dX8_together_85 ?_
          refine x_val (M := mX8_together) (pc := 86) (nI_one _ (by omega)) ?_
          refine x_goto (M := mX8_together) (pc := 86) 90 dX8_together_86 (by decide) ?_
          exact J _ (by simp [jTog, *])
    refine x_ior (M := mX8_together) (pc := 90) dX8_together_90 ?_
    refine x_val (M := mX8_together) (pc := 91) (nI_or _ _) ?_
    refine x_istore3 (M := mX8_together) (pc := 91) dX8_together_91 ?_
    rotate_left
    first | refine x_iinc4N (M := mX8_together) (pc := 92) (c := 1) dX8_together_92 oI1 ?_ | refine x_iinc4 (M := mX8_together) (pc := 92) (c := 1) dX8_together_92 (by decide) ?_
    refine x_goto (M := mX8_together) (pc := 95) 5 dX8_together_95 (by decide) ?_
    rw [← hst]
    exact ih (j + 1) _ _ (by omega)
def tgV (c : Nat) (e : Option Nat) : Nat := match e with
  | none => 0
  | some k => if c.testBit k then 0 else 2 ^ k
theorem tg_eq {wi n c a b : Nat} {ly : Nat → Lay} {J : List Jt} (hp : (jP wi ly n n).Perm J) (hl : ∀ t, t < n → lfA ly n (ly t).1 = t) (ha : a < n) (hb : b < n) (hab : a ≠ b) : orL (jTog c a b) J = tgV c (p_edge wi ly a b) := by
  rw [tog_eq hp hl ha hb hab]
  cases p_edge wi ly a b <;> rfl
theorem c_togetherB (h : xH) (bk sh d a b : Nat) (hd : 3 ≤ d) (s : Row) (ly : Nat → Lay) (hB : BS g h bk sh s ly) (ha : a < zHi s * zWi s) (hb : b < zHi s * zWi s) (hab : a ≠ b) : Ct g l mX8_together d 0 0 [.ref bk, .int (nI a), .int (nI b)] h (fun o h' => o = .inl (some (.int (nI (tgV (zN s 8) (p_edge (zWi s) ly a b))))) ∧ h' = h) := by
  obtain ⟨P, sx, sy, La, xs, J, ⟨lv, jl, ja, cap, sb, hbk, ⟨f, hlv, hf⟩, hly, hJO, hsb⟩, hS, hW, hp, hper, hJ32⟩ := hB
  have hWb := hW.b
  rw [← tg_eq hp (fun t ht => (hper t ht).2) ha hb hab]
  refine Ct.of [some (.ref bk), some (.int (nI a)), some (.int (nI b)), none, none, none, none] (by decide +kernel) rfl (Nat.le_of_ble_eq_true rfl) rfl rfl ?_
  refine x_iconst (M := mX8_together) (pc := 0) (v := nI 0) dX8_together_0 (by decide) ?_
  refine x_istore3 (M := mX8_together) (pc := 1) dX8_together_1 ?_
  refine x_iconst (M := mX8_together) (pc := 2) (v := nI 0) dX8_together_2 (by decide) ?_
  refine x_istore4 (M := mX8_together) (pc := 3) dX8_together_3 ?_
  exact j_tgL h bk sh d a b hd (by omega) (by omega) s ly P sx sy lv jl ja cap sb xs J hW hbk hS hJO (jt_all hp) hJ32 _ ⟨rfl, rfl⟩ J.length 0 _ _ (by omega)
theorem j_otL (h : xH) (bk sh d : Nat) (hd : 3 ≤ d) (s : Row) (P : Nat → Nat) (sx sy : List Nat) (lv jl ja cap sb : Nat) (xs : List Nat) (J : List Jt) (hW : WF s) (hbk : h bk = some (.inr (8, [.ref sh, .ref lv, .ref jl, .ref sb]))) (hS : SHP g h sh P s sx sy) (hJO : JO g h jl ja cap xs J) (hall : ∀ x ∈ J, x.1 < x.2.1 ∧ x.2.1 < zHi s * zWi s ∧ x.2.2 < 4) (hJ32 : J.length ≤ 32) (Q : xO → xH → Prop) (hE : Q (.inl (some (.int (nI (p_clr (orL (fun x => 2 ^ x.2.2) J) (p_se (zN s 7))))))) h) :
    ∀ m j, j + m = J.length → X g l mX8_otherEdges d 0 0 Q 4 [some (.ref bk), some (.int (nI (orL (fun x => 2 ^ x.2.2) (J.take j)))), some (.int (nI j))] [] h 0 0 := by
  have hlen := hJO.2.1
  have hal := hJO.1.al
  have hpse : p_se (zN s 7) ≤ 2 := by unfold p_se; split <;> omega
  have hlt := orL_lt (f := fun x => 2 ^ x.2.2) (k := 4) J (fun x hx => Nat.pow_lt_pow_right (by omega) (hall x hx).2.2)
  intro m
  induction m with
  | zero =>
    intro j hj
    have : j = J.length := by omega
    subst this
    rw [List.take_length]
    refine x_iload_n (M := mX8_otherEdges) (pc := 4) dX8_otherEdges_4 rfl ?_
    refine x_aload_n (M := mX8_otherEdges) (pc := 5) dX8_otherEdges_5 rfl ?_
    refine x_get (M := mX8_otherEdges) (pc := 6) kcX8 2 rfl q1202 dX8_otherEdges_6 (by first | assumption | exact xu_s _ _ _ | exact (xu_n (by first | assumption | exact Ne.symm (by assumption) | exact xu_fresh (by assumption) (by assumption) | exact (xu_fresh (by assumption) (by assumption)).symm)).trans (by first | assumption | exact xu_s _ _ _ | exact (xu_n (by first | assumption | exact Ne.symm (by assumption) | exact xu_fresh (by assumption) (by assumption) | exact (xu_fresh (by assumption) (by assumption)).symm)).trans (by first | assumption | exact xu_s _ _ _ | exact (xu_n (by first | assumption | exact Ne.symm (by assumption) | exact xu_fresh (by assumption) (by assumption) | exact (xu_fresh (by assumption) (by assumption)).symm)).trans (by first | assumption | exact xu_s _ _ _)))) rfl ?_
    refine x_V0 (M := mX8_otherEdges) (pc := 9) (M' := mJ2_size) q1162 kVJ2_size dX8_otherEdges_9 (j_size h jl ja (d - 1) xs hal) (hal.is) (fun v_ h hq_ => ?_)
    obtain ⟨hv_, rfl⟩ := hq_; cases hv_
    first | with_reducible refine x_icmp_geN (M := mX8_otherEdges) (pc := 12) 40 dX8_otherEdges_12 (by decide) (by omega) (by omega) (fun c12 => ?_) (fun c12 => ?_) | refine x_icmp_ge (M := mX8_otherEdges) (pc := 12) 40 dX8_otherEdges_12 (by decide) (fun c12 => ?_) (fun c12 => ?_)
    · refine x_iload_n (M := mX8_otherEdges) (pc := 40) dX8_otherEdges_40 rfl ?_
      refine x_iconst (M := mX8_otherEdges) (pc := 41) (v := 1) dX8_otherEdges_41 (by decide) ?_
      refine x_aload_n (M := mX8_otherEdges) (pc := 42) dX8_otherEdges_42 rfl ?_
      refine x_get (M := mX8_otherEdges) (pc := 43) kcX8 0 rfl q1198 dX8_otherEdges_43 (by first | assumption | exact xu_s _ _ _ | exact (xu_n (by first | assumption | exact Ne.symm (by assumption) | exact xu_fresh (by assumption) (by assumption) | exact (xu_fresh (by assumption) (by assumption)).symm)).trans (by first | assumption | exact xu_s _ _ _ | exact (xu_n (by first | assumption | exact Ne.symm (by assumption) | exact xu_fresh (by assumption) (by assumption) | exact (xu_fresh (by assumption) (by assumption)).symm)).trans (by first | assumption | exact xu_s _ _ _ | exact (xu_n (by first | assumption | exact Ne.symm (by assumption) | exact xu_fresh (by assumption) (by assumption) | exact (xu_fresh (by assumption) (by assumption)).symm)).trans (by first | assumption | exact xu_s _ _ _)))) rfl ?_
      refine x_V0 (M := mX8_otherEdges) (pc := 46) (M' := mX2_spineEdge) q1186 kVX2_spineEdge dX8_otherEdges_46 (c_spineEdge h sh (d - 1) P s hW hS.1) (hS.is) (fun v_ h hq_ => ?_)
      obtain ⟨hv_, rfl⟩ := hq_; cases hv_
      refine x_ishl (M := mX8_otherEdges) (pc := 49) dX8_otherEdges_49 ?_
      refine x_val (M := mX8_otherEdges) (pc := 50) (nI_one _ (by omega)) ?_
      refine x_iconst (M := mX8_otherEdges) (pc := 50) (v := (-1)) dX8_otherEdges_50 (by decide) ?_
      refine x_ixor (M := mX8_otherEdges) (pc := 51) dX8_otherEdges_51 ?_
      refine x_iand (M := mX8_otherEdges) (pc := 52) dX8_otherEdges_52 ?_
      refine x_val (M := mX8_otherEdges) (pc := 53) (nI_clr (by omega) (by omega)) ?_
      refine x_iret (M := mX8_otherEdges) (pc := 53) dX8_otherEdges_53 rfl (by first | exact Nat.le_of_ble_eq_true rfl | omega) (by first | exact Nat.le_of_ble_eq_true rfl | omega) ?_
      exact hE
    · omega
  | succ m ih =>
    intro j hj
    have hjl : j < J.length := by omega
    have hjt := hJO.2.2 j hjl
    obtain ⟨x1, x2, x3⟩ := hall _ (jD_mem hjl)
    have his := xIs.of (g := g) kcX9 hjt
    have hst := orL_take (fun x => 2 ^ x.2.2) hjl
    refine x_iload_n (M := mX8_otherEdges) (pc := 4) dX8_otherEdges_4 rfl ?_
    refine x_aload_n (M := mX8_otherEdges) (pc := 5) dX8_otherEdges_5 rfl ?_
    refine x_get (M := mX8_otherEdges) (pc := 6) kcX8 2 rfl q1202 dX8_otherEdges_6 (by first | assumption | exact xu_s _ _ _ | exact (xu_n (by first | assumption | exact Ne.symm (by assumption) | exact xu_fresh (by assumption) (by assumption) | exact (xu_fresh (by assumption) (by assumption)).symm)).trans (by first | assumption | exact xu_s _ _ _ | exact (xu_n (by first | assumption | exact Ne.symm (by assumption) | exact xu_fresh (by assumption) (by assumption) | exact (xu_fresh (by assumption) (by assumption)).symm)).trans (by first | assumption | exact xu_s _ _ _ | exact (xu_n (by first | assumption | exact Ne.symm (by assumption) | exact xu_fresh (by assumption) (by assumption) | exact (xu_fresh (by assumption) (by assumption)).symm)).trans (by first | assumption | exact xu_s _ _ _)))) rfl ?_
    refine x_V0 (M := mX8_otherEdges) (pc := 9) (M' := mJ2_size) q1162 kVJ2_size dX8_otherEdges_9 (j_size h jl ja (d - 1) xs hal) (hal.is) (fun v_ h hq_ => ?_)
    obtain ⟨hv_, rfl⟩ := hq_; cases hv_
    first | with_reducible refine x_icmp_geN (M := mX8_otherEdges) (pc := 12) 40 dX8_otherEdges_12 (by decide) (by omega) (by omega) (fun c12 => ?_) (fun c12 => ?_) | refine x_icmp_ge (M := mX8_otherEdges) (pc := 12) 40 dX8_otherEdges_12 (by decide) (fun c12 => ?_) (fun c12 => ?_)
    omega
    refine x_iload_n (M := mX8_otherEdges) (pc := 15) dX8_otherEdges_15 rfl ?_
    refine x_iconst (M := mX8_otherEdges) (pc := 16) (v := 1) dX8_otherEdges_16 (by decide) ?_
    refine x_aload_n (M := mX8_otherEdges) (pc := 17) dX8_otherEdges_17 rfl ?_
    refine x_get (M := mX8_otherEdges) (pc := 18) kcX8 2 rfl q1202 dX8_otherEdges_18 (by first | assumption | exact xu_s _ _ _ | exact (xu_n (by first | assumption | exact Ne.symm (by assumption) | exact xu_fresh (by assumption) (by assumption) | exact (xu_fresh (by assumption) (by assumption)).symm)).trans (by first | assumption | exact xu_s _ _ _ | exact (xu_n (by first | assumption | exact Ne.symm (by assumption) | exact xu_fresh (by assumption) (by assumption) | exact (xu_fresh (by assumption) (by assumption)).symm)).trans (by first | assumption | exact xu_s _ _ _ | exact (xu_n (by first | assumption | exact Ne.symm (by assumption) | exact xu_fresh (by assumption) (by assumption) | exact (xu_fresh (by assumption) (by assumption)).symm)).trans (by first | assumption | exact xu_s _ _ _)))) rfl ?_
    refine x_iload_n (M := mX8_otherEdges) (pc := 21) dX8_otherEdges_21 rfl ?_
    refine x_V1 (M := mX8_otherEdges) (pc := 22) (M' := mJ2_get) q1163 kVJ2_get dX8_otherEdges_22 (j_get h jl ja (d - 1) (by omega) xs hal (by omega) j (by omega)) (hal.is) (fun v_ h hq_ => ?_)
    obtain ⟨hv_, rfl⟩ := hq_; cases hv_
    refine x_cast (M := mX8_otherEdges) (pc := 25) q1143 dX8_otherEdges_25 (his) (Or.inl rfl) ?_
    refine x_V0 (M := mX8_otherEdges) (pc := 28) (M' := mX9_edge) q1181 kVX9_edge dX8_otherEdges_28 (c_jtD h _ (d - 1) _ hjt) (his) (fun v_ h hq_ => ?_)
    obtain ⟨hv_, rfl⟩ := hq_; cases hv_
    refine x_ishl (M := mX8_otherEdges) (pc := 31) dX8_otherEdges_31 ?_
    refine x_val (M := mX8_otherEdges) (pc := 32) (nI_one _ (by omega)) ?_
    refine x_ior (M := mX8_otherEdges) (pc := 32) dX8_otherEdges_32 ?_
    refine x_val (M := mX8_otherEdges) (pc := 33) (nI_or _ _) ?_
    refine x_istore1 (M := mX8_otherEdges) (pc := 33) dX8_otherEdges_33 ?_
    rotate_left
    first | refine x_iinc2N (M := mX8_otherEdges) (pc := 34) (c := 1) dX8_otherEdges_34 oI1 ?_ | refine x_iinc2 (M := mX8_otherEdges) (pc := 34) (c := 1) dX8_otherEdges_34 (by decide) ?_
    refine x_goto (M := mX8_otherEdges) (pc := 37) 4 dX8_otherEdges_37 (by decide) ?_
    rw [← hst]
    exact ih (j + 1) (by omega)
theorem clr16_tab : ((List.range 16).all fun a => (List.range 4).all fun k => (List.range 4).all fun b => (p_clr a k).testBit b == (a.testBit b && decide (b ≠ k))) = true := by decide +kernel
theorem clr16 {a k : Nat} (ha : a < 16) (hk : k < 4) (b : Nat) : (p_clr a k).testBit b = (a.testBit b && decide (b ≠ k)) := by
  rcases Nat.lt_or_ge b 4 with q | q
  · simpa using rg (rg (rg clr16_tab ha) hk) q
  · have hb : 2 ^ 4 ≤ 2 ^ b := Nat.pow_le_pow_right (by omega) q
    have := p_clr_le a k
    rw [Nat.testBit_lt_two_pow (by omega), Nat.testBit_lt_two_pow (by omega)]; rfl
theorem c_otherB (h : xH) (bk sh d : Nat) (hd : 3 ≤ d) (s : Row) (ly : Nat → Lay) (hB : BS g h bk sh s ly) : Ct g l mX8_otherEdges d 0 0 [.ref bk] h (fun o h' => o = .inl (some (.int (nI (zCuts s ly)))) ∧ h' = h) := by
  obtain ⟨P, sx, sy, La, xs, J, ⟨lv, jl, ja, cap, sb, hbk, ⟨f, hlv, hf⟩, hly, hJO, hsb⟩, hS, hW, hp, hper, hJ32⟩ := hB
  have hall := jt_all hp
  have hpse : p_se (zN s 7) ≤ 2 := by unfold p_se; split <;> omega
  have hlt := orL_lt (f := fun x => 2 ^ x.2.2) (k := 4) J (fun x hx => Nat.pow_lt_pow_right (by omega) (hall x hx).2.2)
  have e : zCuts s ly = p_clr (orL (fun x => 2 ^ x.2.2) J) (p_se (zN s 7)) := by
    apply Nat.eq_of_testBit_eq
    intro b
    rw [clr16 hlt (by omega)]
    exact oth_eq hp b
  rw [e]
  refine Ct.of [some (.ref bk), none, none] (by decide +kernel) rfl (Nat.le_of_ble_eq_true rfl) rfl rfl ?_
  refine x_iconst (M := mX8_otherEdges) (pc := 0) (v := nI 0) dX8_otherEdges_0 (by decide) ?_
  refine x_istore1 (M := mX8_otherEdges) (pc := 1) dX8_otherEdges_1 ?_
  refine x_iconst (M := mX8_otherEdges) (pc := 2) (v := nI 0) dX8_otherEdges_2 (by decide) ?_
  refine x_istore2 (M := mX8_otherEdges) (pc := 3) dX8_otherEdges_3 ?_
  exact j_otL h bk sh d hd s P sx sy lv jl ja cap sb xs J hW hbk hS hJO hall hJ32 _ ⟨rfl, rfl⟩ J.length 0 (by omega)
end BKREAD2

/-! Sheet.print, Sheet.blank -/
section SHPRINT
set_option maxRecDepth 100000
variable {g : xG} {l : Launch} {h h0 h' : xH}
theorem zNone_inj {x y : Int32} (hx : x = -1 ∨ ∃ m, m < 32 ∧ x = nI m) (hy : y = -1 ∨ ∃ m, m < 32 ∧ y = nI m) : zNone x = zNone y ↔ x = y := by
  refine ⟨fun e => ?_, fun e => by rw [e]⟩
  have n1 : zNone (-1) = -9 := by decide
  have n2 : ∀ m, m < 32 → zNone (nI m) = nI m := fun m hm => by unfold zNone; rw [if_neg (nI_pos (by omega))]
  rcases hx with rfl | ⟨m, hm, rfl⟩ <;> rcases hy with rfl | ⟨k, hk, rfl⟩
  · rfl
  · rw [n1, n2 k hk] at e; exact absurd e (neg9 (by omega))
  · rw [n1, n2 m hm] at e; exact absurd e.symm (neg9 (by omega))
  · rw [n2 m hm, n2 k hk] at e; exact e
theorem WF.pn {s : Row} (hW : WF s) {k : Nat} (hk : k < 32) : s (90 + k) = -1 ∨ ∃ m, m < 32 ∧ s (90 + k) = nI m := by
  rcases (hW.2.2.2.2.2.2.2.2.2.2 k hk).1 with e | ⟨e, h2⟩
  · exact Or.inl e
  · exact Or.inr ⟨_, h2, e⟩
theorem vd1 {p q : Prop} [Decidable p] [Decidable q] (h : p) : nI 1 = bI (decide (p ∨ q)) := by rw [decide_eq_true (Or.inl h)]; rfl
theorem vd2 {p q : Prop} [Decidable p] [Decidable q] (h : q) : nI 1 = bI (decide (p ∨ q)) := by rw [decide_eq_true (Or.inr h)]; rfl
theorem vd3 {p q : Prop} [Decidable p] [Decidable q] (h1 : ¬ p) (h2 : ¬ q) : nI 0 = bI (decide (p ∨ q)) := by rw [decide_eq_false (fun z => z.elim h1 h2)]; rfl
theorem vb1 {b : Bool} (h : b = true) : nI 1 = bI b := by rw [h]; rfl
theorem vb0 {b : Bool} (h : b = false) : nI 0 = bI b := by rw [h]; rfl
theorem zN_u {s : Row} {j k : Nat} {x : Int32} (h : k ≠ j) : zN (upd s j x) k = zN s k := zN_c (by unfold upd; rw [if_neg h])
/-- cells but three stay -/
def xl3 (p q r : Nat) (h h' : xH) : Prop := ∀ a e, a ≠ p → a ≠ q → a ≠ r → h a = some e → h' a = some e
theorem c_prS (hh : xH) (sh d a : Nat) (P : Nat → Nat) (s : Row) (xs ys : List Nat) (hW : WF s) (hS : SHP g hh sh P s xs ys) (ha : a < 32) (nu tn : Int32) (t : Bool) (hnu : nu = -1 ∨ ∃ m, m < 32 ∧ nu = nI m) (ht : p_prT nu tn = bI t) :
    Ct g l mX2_print d 0 0 [.ref sh, .int (nI a), .int (zNone nu), .int (bI t)] hh (fun o h' => o = .inl (some (.int (p_prC s a nu tn))) ∧ SHP g h' sh P (p_prS s a nu tn) xs ys ∧ xl3 (P 1) (P 2) (P 5) hh h') := by
  have hS0 := hS
  obtain ⟨hsh, -, ⟨f3, h3, v3⟩, ⟨f4, h4, v4⟩, ⟨f5, h5, v5⟩, -, -, h8⟩ := hS
  have n1 : P 2 ≠ P 1 := h8.2.1.symm
  have n2 : P 5 ≠ P 1 := fun z => by rw [z, h3] at h5; simp at h5
  have n3 : P 5 ≠ P 2 := fun z => by rw [z, h4] at h5; simp at h5
  have n4 : sh ≠ P 1 := fun z => by rw [z, h3] at hsh; cases hsh
  have n5 : sh ≠ P 2 := fun z => by rw [z, h4] at hsh; cases hsh
  have n6 : sh ≠ P 5 := fun z => by rw [z, h5] at hsh; cases hsh
  have e3 : f3 a = zNone (s (90 + a)) := v3 a ha
  have e4 : f4 a = s (122 + a) := v4 a ha
  have e5 : f5 1 = s 87 := v5 1 (by omega)
  have hz := zNone_inj (hW.pn ha) hnu
  have ht01 := bI_01 t
  have hC : p_prC s a nu tn = bI (decide (s (90 + a) ≠ nu ∨ s (122 + a) ≠ bI t)) := by
    unfold p_prC; rw [ht]
    by_cases q : s (90 + a) ≠ nu ∨ s (122 + a) ≠ bI t
    · rw [if_pos q, decide_eq_true q]; rfl
    · rw [if_neg q, decide_eq_false q]; rfl
  rw [hC]
  have hsh0 := hsh
  unfold shE at hsh
  refine Ct.of [some (.ref sh), some (.int (nI a)), some (.int (zNone nu)), some (.int (bI t)), none] (by decide +kernel) rfl (Nat.le_of_ble_eq_true rfl) rfl rfl ?_
  refine x_joinV 25 (bI (decide (s (90 + a) ≠ nu ∨ s (122 + a) ≠ bI t))) (fun J => ?_) ?_
  · refine x_aload_n (M := mX2_print) (pc := 0) dX2_print_0 rfl ?_
    refine x_get (M := mX2_print) (pc := 1) kcX2 4 rfl q227 dX2_print_1 (by first | assumption | exact xu_s _ _ _ | exact (xu_n (by first | assumption | exact Ne.symm (by assumption) | exact xu_fresh (by assumption) (by assumption) | exact (xu_fresh (by assumption) (by assumption)).symm)).trans (by first | assumption | exact xu_s _ _ _ | exact (xu_n (by first | assumption | exact Ne.symm (by assumption) | exact xu_fresh (by assumption) (by assumption) | exact (xu_fresh (by assumption) (by assumption)).symm)).trans (by first | assumption | exact xu_s _ _ _ | exact (xu_n (by first | assumption | exact Ne.symm (by assumption) | exact xu_fresh (by assumption) (by assumption) | exact (xu_fresh (by assumption) (by assumption)).symm)).trans (by first | assumption | exact xu_s _ _ _)))) rfl ?_
    refine x_iload_n (M := mX2_print) (pc := 4) dX2_print_4 rfl ?_
    refine x_ialdN (M := mX2_print) (pc := 5) _ dX2_print_5 (by first | assumption | exact xu_s _ _ _ | exact (xu_n (by first | assumption | exact Ne.symm (by assumption) | exact xu_fresh (by assumption) (by assumption) | exact (xu_fresh (by assumption) (by assumption)).symm)).trans (by first | assumption | exact xu_s _ _ _ | exact (xu_n (by first | assumption | exact Ne.symm (by assumption) | exact xu_fresh (by assumption) (by assumption) | exact (xu_fresh (by assumption) (by assumption)).symm)).trans (by first | assumption | exact xu_s _ _ _ | exact (xu_n (by first | assumption | exact Ne.symm (by assumption) | exact xu_fresh (by assumption) (by assumption) | exact (xu_fresh (by assumption) (by assumption)).symm)).trans (by first | assumption | exact xu_s _ _ _)))) (by first | rfl | assumption) (by first | assumption | omega) (by first | decide | omega) ?_
    refine x_val (M := mX2_print) (pc := 6) (e3) ?_
    refine x_iload_n (M := mX2_print) (pc := 6) dX2_print_6 rfl ?_
    refine x_icmp_ne (M := mX2_print) (pc := 7) 20 dX2_print_7 (by decide) (fun r_a => ?_) (fun r_a => ?_)
    · refine x_iconst (M := mX2_print) (pc := 20) (v := nI 1) dX2_print_20 (by decide) ?_
      refine x_goto (M := mX2_print) (pc := 21) 25 dX2_print_21 (by decide) ?_
      exact J _ (by first | exact vd1 (p := s (90 + a) ≠ nu) (q := s (122 + a) ≠ bI t) (fun z => r_a (hz.mpr z)) | exact vd3 (p := s (90 + a) ≠ nu) (q := s (122 + a) ≠ bI t) (fun z => z (hz.mp r_a)) (fun z => z r_b) | exact vd2 (p := s (90 + a) ≠ nu) (q := s (122 + a) ≠ bI t) r_b)
    · refine x_aload_n (M := mX2_print) (pc := 10) dX2_print_10 rfl ?_
      refine x_get (M := mX2_print) (pc := 11) kcX2 5 rfl q231 dX2_print_11 (by first | assumption | exact xu_s _ _ _ | exact (xu_n (by first | assumption | exact Ne.symm (by assumption) | exact xu_fresh (by assumption) (by assumption) | exact (xu_fresh (by assumption) (by assumption)).symm)).trans (by first | assumption | exact xu_s _ _ _ | exact (xu_n (by first | assumption | exact Ne.symm (by assumption) | exact xu_fresh (by assumption) (by assumption) | exact (xu_fresh (by assumption) (by assumption)).symm)).trans (by first | assumption | exact xu_s _ _ _ | exact (xu_n (by first | assumption | exact Ne.symm (by assumption) | exact xu_fresh (by assumption) (by assumption) | exact (xu_fresh (by assumption) (by assumption)).symm)).trans (by first | assumption | exact xu_s _ _ _)))) rfl ?_
      refine x_iload_n (M := mX2_print) (pc := 14) dX2_print_14 rfl ?_
      refine x_zaldN (M := mX2_print) (pc := 15) _ dX2_print_15 (by first | assumption | exact xu_s _ _ _ | exact (xu_n (by first | assumption | exact Ne.symm (by assumption) | exact xu_fresh (by assumption) (by assumption) | exact (xu_fresh (by assumption) (by assumption)).symm)).trans (by first | assumption | exact xu_s _ _ _ | exact (xu_n (by first | assumption | exact Ne.symm (by assumption) | exact xu_fresh (by assumption) (by assumption) | exact (xu_fresh (by assumption) (by assumption)).symm)).trans (by first | assumption | exact xu_s _ _ _ | exact (xu_n (by first | assumption | exact Ne.symm (by assumption) | exact xu_fresh (by assumption) (by assumption) | exact (xu_fresh (by assumption) (by assumption)).symm)).trans (by first | assumption | exact xu_s _ _ _)))) (by first | rfl | assumption) (by first | assumption | omega) (by first | decide | omega) ?_
      refine x_val (M := mX2_print) (pc := 16) (e4) ?_
      refine x_iload_n (M := mX2_print) (pc := 16) dX2_print_16 rfl ?_
      refine x_icmp_eq (M := mX2_print) (pc := 17) 24 dX2_print_17 (by decide) (fun r_b => ?_) (fun r_b => ?_)
      · refine x_iconst (M := mX2_print) (pc := 24) (v := nI 0) dX2_print_24 (by decide) ?_
        exact J _ (by first | exact vd1 (p := s (90 + a) ≠ nu) (q := s (122 + a) ≠ bI t) (fun z => r_a (hz.mpr z)) | exact vd3 (p := s (90 + a) ≠ nu) (q := s (122 + a) ≠ bI t) (fun z => z (hz.mp r_a)) (fun z => z r_b) | exact vd2 (p := s (90 + a) ≠ nu) (q := s (122 + a) ≠ bI t) r_b)
      · refine x_iconst (M := mX2_print) (pc := 20) (v := nI 1) dX2_print_20 (by decide) ?_
        refine x_goto (M := mX2_print) (pc := 21) 25 dX2_print_21 (by decide) ?_
        exact J _ (by first | exact vd1 (p := s (90 + a) ≠ nu) (q := s (122 + a) ≠ bI t) (fun z => r_a (hz.mpr z)) | exact vd3 (p := s (90 + a) ≠ nu) (q := s (122 + a) ≠ bI t) (fun z => z (hz.mp r_a)) (fun z => z r_b) | exact vd2 (p := s (90 + a) ≠ nu) (q := s (122 + a) ≠ bI t) r_b)
  refine x_istore4 (M := mX2_print) (pc := 25) dX2_print_25 ?_
  refine x_aload_n (M := mX2_print) (pc := 27) dX2_print_27 rfl ?_
  refine x_get (M := mX2_print) (pc := 28) kcX2 4 rfl q227 dX2_print_28 (by first | assumption | exact xu_s _ _ _ | exact (xu_n (by first | assumption | exact Ne.symm (by assumption) | exact xu_fresh (by assumption) (by assumption) | exact (xu_fresh (by assumption) (by assumption)).symm)).trans (by first | assumption | exact xu_s _ _ _ | exact (xu_n (by first | assumption | exact Ne.symm (by assumption) | exact xu_fresh (by assumption) (by assumption) | exact (xu_fresh (by assumption) (by assumption)).symm)).trans (by first | assumption | exact xu_s _ _ _ | exact (xu_n (by first | assumption | exact Ne.symm (by assumption) | exact xu_fresh (by assumption) (by assumption) | exact (xu_fresh (by assumption) (by assumption)).symm)).trans (by first | assumption | exact xu_s _ _ _)))) rfl ?_
  refine x_iload_n (M := mX2_print) (pc := 31) dX2_print_31 rfl ?_
  refine x_iload_n (M := mX2_print) (pc := 32) dX2_print_32 rfl ?_
  refine x_iastN (M := mX2_print) (pc := 33) _ dX2_print_33 (by first | assumption | exact xu_s _ _ _ | exact (xu_n (by first | assumption | exact Ne.symm (by assumption) | exact xu_fresh (by assumption) (by assumption) | exact (xu_fresh (by assumption) (by assumption)).symm)).trans (by first | assumption | exact xu_s _ _ _ | exact (xu_n (by first | assumption | exact Ne.symm (by assumption) | exact xu_fresh (by assumption) (by assumption) | exact (xu_fresh (by assumption) (by assumption)).symm)).trans (by first | assumption | exact xu_s _ _ _ | exact (xu_n (by first | assumption | exact Ne.symm (by assumption) | exact xu_fresh (by assumption) (by assumption) | exact (xu_fresh (by assumption) (by assumption)).symm)).trans (by first | assumption | exact xu_s _ _ _)))) (by first | rfl | assumption) (by first | assumption | omega) (by first | decide | omega) ?_
  refine x_aload_n (M := mX2_print) (pc := 34) dX2_print_34 rfl ?_
  refine x_get (M := mX2_print) (pc := 35) kcX2 5 rfl q231 dX2_print_35 (by first | assumption | exact xu_s _ _ _ | exact (xu_n (by first | assumption | exact Ne.symm (by assumption) | exact xu_fresh (by assumption) (by assumption) | exact (xu_fresh (by assumption) (by assumption)).symm)).trans (by first | assumption | exact xu_s _ _ _ | exact (xu_n (by first | assumption | exact Ne.symm (by assumption) | exact xu_fresh (by assumption) (by assumption) | exact (xu_fresh (by assumption) (by assumption)).symm)).trans (by first | assumption | exact xu_s _ _ _ | exact (xu_n (by first | assumption | exact Ne.symm (by assumption) | exact xu_fresh (by assumption) (by assumption) | exact (xu_fresh (by assumption) (by assumption)).symm)).trans (by first | assumption | exact xu_s _ _ _)))) rfl ?_
  refine x_iload_n (M := mX2_print) (pc := 38) dX2_print_38 rfl ?_
  refine x_iload_n (M := mX2_print) (pc := 39) dX2_print_39 rfl ?_
  refine x_zastB (M := mX2_print) (pc := 40) _ dX2_print_40 (by first | assumption | exact xu_s _ _ _ | exact (xu_n (by first | assumption | exact Ne.symm (by assumption) | exact xu_fresh (by assumption) (by assumption) | exact (xu_fresh (by assumption) (by assumption)).symm)).trans (by first | assumption | exact xu_s _ _ _ | exact (xu_n (by first | assumption | exact Ne.symm (by assumption) | exact xu_fresh (by assumption) (by assumption) | exact (xu_fresh (by assumption) (by assumption)).symm)).trans (by first | assumption | exact xu_s _ _ _ | exact (xu_n (by first | assumption | exact Ne.symm (by assumption) | exact xu_fresh (by assumption) (by assumption) | exact (xu_fresh (by assumption) (by assumption)).symm)).trans (by first | assumption | exact xu_s _ _ _)))) (by first | rfl | assumption) (by first | assumption | omega) (by first | decide | omega) (by first | with_reducible exact xz0 | with_reducible exact xz1 | with_reducible exact bI_01 _ | with_reducible assumption | assumption) ?_
  refine x_aload_n (M := mX2_print) (pc := 41) dX2_print_41 rfl ?_
  refine x_get (M := mX2_print) (pc := 42) kcX2 13 rfl q269 dX2_print_42 (by first | assumption | exact xu_s _ _ _ | exact (xu_n (by first | assumption | exact Ne.symm (by assumption) | exact xu_fresh (by assumption) (by assumption) | exact (xu_fresh (by assumption) (by assumption)).symm)).trans (by first | assumption | exact xu_s _ _ _ | exact (xu_n (by first | assumption | exact Ne.symm (by assumption) | exact xu_fresh (by assumption) (by assumption) | exact (xu_fresh (by assumption) (by assumption)).symm)).trans (by first | assumption | exact xu_s _ _ _ | exact (xu_n (by first | assumption | exact Ne.symm (by assumption) | exact xu_fresh (by assumption) (by assumption) | exact (xu_fresh (by assumption) (by assumption)).symm)).trans (by first | assumption | exact xu_s _ _ _)))) rfl ?_
  refine x_iconst (M := mX2_print) (pc := 45) (v := nI 1) dX2_print_45 (by decide) ?_
  refine x_dup2 (M := mX2_print) (pc := 46) dX2_print_46 ?_
  refine x_ialdN (M := mX2_print) (pc := 47) _ dX2_print_47 (by first | assumption | exact xu_s _ _ _ | exact (xu_n (by first | assumption | exact Ne.symm (by assumption) | exact xu_fresh (by assumption) (by assumption) | exact (xu_fresh (by assumption) (by assumption)).symm)).trans (by first | assumption | exact xu_s _ _ _ | exact (xu_n (by first | assumption | exact Ne.symm (by assumption) | exact xu_fresh (by assumption) (by assumption) | exact (xu_fresh (by assumption) (by assumption)).symm)).trans (by first | assumption | exact xu_s _ _ _ | exact (xu_n (by first | assumption | exact Ne.symm (by assumption) | exact xu_fresh (by assumption) (by assumption) | exact (xu_fresh (by assumption) (by assumption)).symm)).trans (by first | assumption | exact xu_s _ _ _)))) (by first | rfl | assumption) (by first | assumption | omega) (by first | decide | omega) ?_
  refine x_val (M := mX2_print) (pc := 48) (e5) ?_
  refine x_joinV 58 (bI (decide (s (90 + a) ≠ nu ∨ s (122 + a) ≠ bI t))) (fun J => ?_) ?_
  · refine x_iload (M := mX2_print) (pc := 48) dX2_print_48 rfl ?_
    first | with_reducible refine x_ifB_eq (M := mX2_print) (pc := 50) 57 dX2_print_50 (by decide) (fun c50 => ?_) (fun c50 => ?_) | with_reducible refine x_if_eqN (M := mX2_print) (pc := 50) 57 dX2_print_50 (by decide) (by omega) (fun c50 => ?_) (fun c50 => ?_) | refine x_if_eq (M := mX2_print) (pc := 50) 57 dX2_print_50 (by decide) (fun c50 => ?_) (fun c50 => ?_)
    · refine x_iconst (M := mX2_print) (pc := 57) (v := nI 0) dX2_print_57 (by decide) ?_
      exact J _ (by first | exact vb1 c50 | exact vb0 c50)
    · refine x_iconst (M := mX2_print) (pc := 53) (v := nI 1) dX2_print_53 (by decide) ?_
      refine x_goto (M := mX2_print) (pc := 54) 58 dX2_print_54 (by decide) ?_
      exact J _ (by first | exact vb1 c50 | exact vb0 c50)
  first | with_reducible refine x_iaddN (M := mX2_print) (pc := 58) dX2_print_58 ?_ | refine x_iadd (M := mX2_print) (pc := 58) dX2_print_58 ?_
  refine x_iastN (M := mX2_print) (pc := 59) _ dX2_print_59 (by first | assumption | exact xu_s _ _ _ | exact (xu_n (by first | assumption | exact Ne.symm (by assumption) | exact xu_fresh (by assumption) (by assumption) | exact (xu_fresh (by assumption) (by assumption)).symm)).trans (by first | assumption | exact xu_s _ _ _ | exact (xu_n (by first | assumption | exact Ne.symm (by assumption) | exact xu_fresh (by assumption) (by assumption) | exact (xu_fresh (by assumption) (by assumption)).symm)).trans (by first | assumption | exact xu_s _ _ _ | exact (xu_n (by first | assumption | exact Ne.symm (by assumption) | exact xu_fresh (by assumption) (by assumption) | exact (xu_fresh (by assumption) (by assumption)).symm)).trans (by first | assumption | exact xu_s _ _ _)))) (by first | rfl | assumption) (by first | assumption | omega) (by first | decide | omega) ?_
  rotate_left
  have q1 := hS0.nu (s' := upd s (90 + a) nu) (f := upd f3 a (zNone nu)) hW.nb (fun k hk => by by_cases z : k = a; (subst z; rw [upd_s, upd_s]); rw [upd_n _ _ z, upd_n _ _ (by omega)]; exact v3 k hk) (fun k hk => upd_n _ _ (by omega))
  have nb1 : zN (upd s (90 + a) nu) 12 ≤ 8 ∧ zN (upd s (90 + a) nu) 37 ≤ 12 := by rw [zN_u (by omega), zN_u (by omega)]; exact hW.nb
  have q2 := q1.tu (s' := upd (upd s (90 + a) nu) (122 + a) (bI t)) (f := upd f4 a (bI t)) nb1 (fun k hk => by by_cases z : k = a; (subst z; rw [upd_s, upd_s]); rw [upd_n _ _ z, upd_n _ _ (by omega), upd_n _ _ (by omega)]; exact v4 k hk) (fun k hk => upd_n _ _ (by omega))
  have nb2 : zN (upd (upd s (90 + a) nu) (122 + a) (bI t)) 12 ≤ 8 ∧ zN (upd (upd s (90 + a) nu) (122 + a) (bI t)) 37 ≤ 12 := ⟨by rw [zN_u (by omega)]; exact nb1.1, by rw [zN_u (by omega)]; exact nb1.2⟩
  have q3 := q2.ef (s' := p_prS s a nu tn) (f := upd f5 1 (s 87 + bI (decide (s (90 + a) ≠ nu ∨ s (122 + a) ≠ bI t)))) nb2 (fun k hk => by
    unfold p_prS; rw [hC, ht]
    by_cases z : k = 1
    · subst z; rw [upd_s]; exact (upd_s _ 87 _).symm
    · rw [upd_n _ _ z, upd_n _ _ (by omega), upd_n _ _ (by omega), upd_n _ _ (by omega)]; exact v5 k hk) (fun k hk => by unfold p_prS; rw [ht, upd_n _ _ (by omega)])
  refine x_iload (M := mX2_print) (pc := 60) dX2_print_60 rfl ?_
  refine x_zret (M := mX2_print) (pc := 62) dX2_print_62 rfl (by first | with_reducible exact xz0 | with_reducible exact xz1 | with_reducible exact bI_01 _ | with_reducible assumption | assumption) (by first | exact Nat.le_of_ble_eq_true rfl | omega) (by first | exact Nat.le_of_ble_eq_true rfl | omega) ?_
  exact ⟨rfl, q3, fun p e n1 n2 n3 hp => (xu_n n3).trans ((xu_n n2).trans ((xu_n n1).trans hp))⟩
theorem noPr_s {k : Nat} (hk : k < 32) (s : Row) : p_noPrint (k + 1) s = upd (upd (p_noPrint k s) (90 + k) (-1)) (122 + k) 0 := by
  funext j
  by_cases z1 : j = 122 + k
  · subst z1; rw [upd_s]; unfold p_noPrint; rw [if_neg (by omega), if_pos (by omega)]
  · rw [upd_n _ _ z1]
    by_cases z2 : j = 90 + k
    · subst z2; rw [upd_s]; unfold p_noPrint; rw [if_pos (by omega)]
    · rw [upd_n _ _ z2]
      unfold p_noPrint
      by_cases z3 : 90 ≤ j ∧ j < 90 + k
      · rw [if_pos (c := 90 ≤ j ∧ j < 90 + k) z3, if_pos (c := 90 ≤ j ∧ j < 90 + (k + 1)) (by omega)]
      · rw [if_neg (c := 90 ≤ j ∧ j < 90 + k) z3, if_neg (c := 90 ≤ j ∧ j < 90 + (k + 1)) (by omega)]
        by_cases z4 : 122 ≤ j ∧ j < 122 + k
        · rw [if_pos (c := 122 ≤ j ∧ j < 122 + k) z4, if_pos (c := 122 ≤ j ∧ j < 122 + (k + 1)) (by omega)]
        · rw [if_neg (c := 122 ≤ j ∧ j < 122 + k) z4, if_neg (c := 122 ≤ j ∧ j < 122 + (k + 1)) (by omega)]
theorem noPr_n {k j : Nat} (s : Row) (hj : j < 90) : p_noPrint k s j = s j := by unfold p_noPrint; rw [if_neg (by omega), if_neg (by omega)]
theorem j_blL (hh : xH) (sh d : Nat) (P : Nat → Nat) (s : Row) (xs ys : List Nat) (nb : zN s 12 ≤ 8 ∧ zN s 37 ≤ 12) (Q : xO → xH → Prop) (hE : ∀ h', SHP g h' sh P (p_noPrint 32 s) xs ys → xle2 (P 1) (P 2) hh h' → Q (.inl none) h') : ∀ n k, k + n = 32 → ∀ h, SHP g h sh P (p_noPrint k s) xs ys → xle2 (P 1) (P 2) hh h → X g l mX2_blank d 0 0 Q 2 [some (.ref sh), some (.int (nI k))] [] h 0 0 := by
  intro n
  induction n with
  | zero =>
    intro k hk h hS hle
    have : k = 32 := by omega
    subst this
    refine x_iload_n (M := mX2_blank) (pc := 2) dX2_blank_2 rfl ?_
    refine x_bipush (M := mX2_blank) (pc := 3) (v := nI 32) dX2_blank_3 (by decide) ?_
    first | with_reducible refine x_icmp_geN (M := mX2_blank) (pc := 5) 29 dX2_blank_5 (by decide) (by omega) (by omega) (fun c5 => ?_) (fun c5 => ?_) | refine x_icmp_ge (M := mX2_blank) (pc := 5) 29 dX2_blank_5 (by decide) (fun c5 => ?_) (fun c5 => ?_)
    · refine x_vret (M := mX2_blank) (pc := 29) dX2_blank_29 rfl (by first | exact Nat.le_of_ble_eq_true rfl | omega) (by first | exact Nat.le_of_ble_eq_true rfl | omega) ?_
      exact hE h hS hle
    · omega
  | succ n ih =>
    intro k hk h hS hle
    have hS0 := hS
    obtain ⟨hsh, -, ⟨f3, h3, v3⟩, ⟨f4, h4, v4⟩, -, -, -, h8⟩ := hS
    have n1 : P 2 ≠ P 1 := h8.2.1.symm
    have n4 : sh ≠ P 1 := fun z => by rw [z, h3] at hsh; cases hsh
    unfold shE at hsh
    have nbk : zN (p_noPrint k s) 12 ≤ 8 ∧ zN (p_noPrint k s) 37 ≤ 12 := by rw [zN_c (noPr_n s (by omega)), zN_c (noPr_n s (by omega))]; exact nb
    have q1 := hS0.nu (s' := upd (p_noPrint k s) (90 + k) (-1)) (f := upd f3 k (-9)) nbk (fun j hj => by by_cases z : j = k; (subst z; rw [upd_s, upd_s]; decide); rw [upd_n _ _ z, upd_n _ _ (by omega)]; exact v3 j hj) (fun j hj => upd_n _ _ (by omega))
    have nb1 : zN (upd (p_noPrint k s) (90 + k) (-1)) 12 ≤ 8 ∧ zN (upd (p_noPrint k s) (90 + k) (-1)) 37 ≤ 12 := by rw [zN_u (by omega), zN_u (by omega)]; exact nbk
    have q2 := q1.tu (s' := p_noPrint (k + 1) s) (f := upd f4 k 0) nb1 (fun j hj => by rw [noPr_s (by omega)]; by_cases z : j = k; (subst z; rw [upd_s, upd_s]); rw [upd_n _ _ z, upd_n _ _ (by omega), upd_n _ _ (by omega)]; exact v4 j hj) (fun j hj => by rw [noPr_s (by omega), upd_n _ _ (by omega)])
    refine x_iload_n (M := mX2_blank) (pc := 2) dX2_blank_2 rfl ?_
    refine x_bipush (M := mX2_blank) (pc := 3) (v := nI 32) dX2_blank_3 (by decide) ?_
    first | with_reducible refine x_icmp_geN (M := mX2_blank) (pc := 5) 29 dX2_blank_5 (by decide) (by omega) (by omega) (fun c5 => ?_) (fun c5 => ?_) | refine x_icmp_ge (M := mX2_blank) (pc := 5) 29 dX2_blank_5 (by decide) (fun c5 => ?_) (fun c5 => ?_)
    omega
    refine x_aload_n (M := mX2_blank) (pc := 8) dX2_blank_8 rfl ?_
    refine x_get (M := mX2_blank) (pc := 9) kcX2 4 rfl q227 dX2_blank_9 (by first | assumption | exact xu_s _ _ _ | exact (xu_n (by first | assumption | exact Ne.symm (by assumption) | exact xu_fresh (by assumption) (by assumption) | exact (xu_fresh (by assumption) (by assumption)).symm)).trans (by first | assumption | exact xu_s _ _ _ | exact (xu_n (by first | assumption | exact Ne.symm (by assumption) | exact xu_fresh (by assumption) (by assumption) | exact (xu_fresh (by assumption) (by assumption)).symm)).trans (by first | assumption | exact xu_s _ _ _ | exact (xu_n (by first | assumption | exact Ne.symm (by assumption) | exact xu_fresh (by assumption) (by assumption) | exact (xu_fresh (by assumption) (by assumption)).symm)).trans (by first | assumption | exact xu_s _ _ _)))) rfl ?_
    refine x_iload_n (M := mX2_blank) (pc := 12) dX2_blank_12 rfl ?_
    refine x_bipush (M := mX2_blank) (pc := 13) (v := (-9)) dX2_blank_13 (by decide) ?_
    refine x_iastN (M := mX2_blank) (pc := 15) _ dX2_blank_15 (by first | assumption | exact xu_s _ _ _ | exact (xu_n (by first | assumption | exact Ne.symm (by assumption) | exact xu_fresh (by assumption) (by assumption) | exact (xu_fresh (by assumption) (by assumption)).symm)).trans (by first | assumption | exact xu_s _ _ _ | exact (xu_n (by first | assumption | exact Ne.symm (by assumption) | exact xu_fresh (by assumption) (by assumption) | exact (xu_fresh (by assumption) (by assumption)).symm)).trans (by first | assumption | exact xu_s _ _ _ | exact (xu_n (by first | assumption | exact Ne.symm (by assumption) | exact xu_fresh (by assumption) (by assumption) | exact (xu_fresh (by assumption) (by assumption)).symm)).trans (by first | assumption | exact xu_s _ _ _)))) (by first | rfl | assumption) (by first | assumption | omega) (by first | decide | omega) ?_
    refine x_aload_n (M := mX2_blank) (pc := 16) dX2_blank_16 rfl ?_
    refine x_get (M := mX2_blank) (pc := 17) kcX2 5 rfl q231 dX2_blank_17 (by first | assumption | exact xu_s _ _ _ | exact (xu_n (by first | assumption | exact Ne.symm (by assumption) | exact xu_fresh (by assumption) (by assumption) | exact (xu_fresh (by assumption) (by assumption)).symm)).trans (by first | assumption | exact xu_s _ _ _ | exact (xu_n (by first | assumption | exact Ne.symm (by assumption) | exact xu_fresh (by assumption) (by assumption) | exact (xu_fresh (by assumption) (by assumption)).symm)).trans (by first | assumption | exact xu_s _ _ _ | exact (xu_n (by first | assumption | exact Ne.symm (by assumption) | exact xu_fresh (by assumption) (by assumption) | exact (xu_fresh (by assumption) (by assumption)).symm)).trans (by first | assumption | exact xu_s _ _ _)))) rfl ?_
    refine x_iload_n (M := mX2_blank) (pc := 20) dX2_blank_20 rfl ?_
    refine x_iconst (M := mX2_blank) (pc := 21) (v := nI 0) dX2_blank_21 (by decide) ?_
    refine x_zastB (M := mX2_blank) (pc := 22) _ dX2_blank_22 (by first | assumption | exact xu_s _ _ _ | exact (xu_n (by first | assumption | exact Ne.symm (by assumption) | exact xu_fresh (by assumption) (by assumption) | exact (xu_fresh (by assumption) (by assumption)).symm)).trans (by first | assumption | exact xu_s _ _ _ | exact (xu_n (by first | assumption | exact Ne.symm (by assumption) | exact xu_fresh (by assumption) (by assumption) | exact (xu_fresh (by assumption) (by assumption)).symm)).trans (by first | assumption | exact xu_s _ _ _ | exact (xu_n (by first | assumption | exact Ne.symm (by assumption) | exact xu_fresh (by assumption) (by assumption) | exact (xu_fresh (by assumption) (by assumption)).symm)).trans (by first | assumption | exact xu_s _ _ _)))) (by first | rfl | assumption) (by first | assumption | omega) (by first | decide | omega) (by first | with_reducible exact xz0 | with_reducible exact xz1 | with_reducible exact bI_01 _ | with_reducible assumption | assumption) ?_
    rotate_left
    first | refine x_iinc1N (M := mX2_blank) (pc := 23) (c := 1) dX2_blank_23 oI1 ?_ | refine x_iinc1 (M := mX2_blank) (pc := 23) (c := 1) dX2_blank_23 (by decide) ?_
    refine x_goto (M := mX2_blank) (pc := 26) 2 dX2_blank_26 (by decide) ?_
    exact ih (k + 1) (by omega) _ q2 (fun p e n1 n2 hp => (xu_n n2).trans ((xu_n n1).trans (hle p e n1 n2 hp)))
theorem c_blank (hh : xH) (sh d : Nat) (P : Nat → Nat) (s : Row) (xs ys : List Nat) (nb : zN s 12 ≤ 8 ∧ zN s 37 ≤ 12) (hS : SHP g hh sh P s xs ys) : Ct g l mX2_blank d 0 0 [.ref sh] hh (fun o h' => o = .inl none ∧ SHP g h' sh P (p_noPrint 32 s) xs ys ∧ xle2 (P 1) (P 2) hh h') := by
  refine Ct.of [some (.ref sh), none] (by decide +kernel) rfl (Nat.le_of_ble_eq_true rfl) rfl rfl ?_
  refine x_iconst (M := mX2_blank) (pc := 0) (v := nI 0) dX2_blank_0 (by decide) ?_
  refine x_istore1 (M := mX2_blank) (pc := 1) dX2_blank_1 ?_
  refine j_blL hh sh d P s xs ys nb _ (fun h' w1 w2 => ⟨rfl, w1, w2⟩) 32 0 (by omega) hh ?_ (fun _ _ _ _ z => z)
  rw [show p_noPrint 0 s = s by funext j; unfold p_noPrint; rw [if_neg (by omega), if_neg (by omega)]]
  exact hS
end SHPRINT

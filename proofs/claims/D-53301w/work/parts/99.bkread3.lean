/-! a booklet's pieces; what it shows -/
section BKREAD3
set_option maxRecDepth 100000
variable {g : xG} {l : Launch} {h h0 h' : xH}
theorem j_mgL (h0 : xH) (pa n d a b : Nat) (hn : n ≤ 16) (P : Nat → Nat) (hP : ∀ k, k < n → P k < 16) (ha : a < 16) (hb : b < 16) (v1 v2 : Value) (Q : xO → xH → Prop) (hE : ∀ h1 T, h1 pa = some (.inl (xdA g 0, n, .inl T)) → (∀ k, k < n → T k = nI (p_jn P a b k)) → xle1 pa h0 h1 → Q (.inl (some (.int (bI (decide (a ≠ b)))))) h1) :
    ∀ m k, k + m = n → ∀ h1 T, h1 pa = some (.inl (xdA g 0, n, .inl T)) → (∀ t, t < k → T t = nI (p_jn P a b t)) → (∀ t, k ≤ t → t < n → T t = nI (P t)) → xle1 pa h0 h1 → X g l mX8_merges d 0 0 Q 12 [some (.ref pa), some v1, some v2, some (.int (nI b)), some (.int (nI a)), some (.int (nI k))] [] h1 0 0 := by
  intro m
  induction m with
  | zero =>
    intro k hk h1 T hT h2 h3 hle
    have : k = n := by omega
    subst this
    have hEE := hE h1 T hT h2 hle
    refine x_iload (M := mX8_merges) (pc := 12) dX8_merges_12 rfl ?_
    refine x_aload_n (M := mX8_merges) (pc := 14) dX8_merges_14 rfl ?_
    refine x_alen (M := mX8_merges) (pc := 15) dX8_merges_15 (by first | assumption | exact xu_s _ _ _ | exact (xu_n (by first | assumption | exact Ne.symm (by assumption) | exact xu_fresh (by assumption) (by assumption) | exact (xu_fresh (by assumption) (by assumption)).symm)).trans (by first | assumption | exact xu_s _ _ _ | exact (xu_n (by first | assumption | exact Ne.symm (by assumption) | exact xu_fresh (by assumption) (by assumption) | exact (xu_fresh (by assumption) (by assumption)).symm)).trans (by first | assumption | exact xu_s _ _ _ | exact (xu_n (by first | assumption | exact Ne.symm (by assumption) | exact xu_fresh (by assumption) (by assumption) | exact (xu_fresh (by assumption) (by assumption)).symm)).trans (by first | assumption | exact xu_s _ _ _)))) rfl ?_
    first | with_reducible refine x_icmp_geN (M := mX8_merges) (pc := 16) 52 dX8_merges_16 (by decide) (by omega) (by omega) (fun c16 => ?_) (fun c16 => ?_) | refine x_icmp_ge (M := mX8_merges) (pc := 16) 52 dX8_merges_16 (by decide) (fun c16 => ?_) (fun c16 => ?_)
    rotate_left
    omega
    by_cases q : a = b
    · rw [show decide (a ≠ b) = false by simp [q]] at hEE
      refine x_iload_n (M := mX8_merges) (pc := 52) dX8_merges_52 rfl ?_
      refine x_iload (M := mX8_merges) (pc := 53) dX8_merges_53 rfl ?_
      first | with_reducible refine x_icmp_eqN (M := mX8_merges) (pc := 55) 62 dX8_merges_55 (by decide) (by omega) (by omega) (fun c55 => ?_) (fun c55 => ?_) | refine x_icmp_eq (M := mX8_merges) (pc := 55) 62 dX8_merges_55 (by decide) (fun c55 => ?_) (fun c55 => ?_)
      · refine x_iconst (M := mX8_merges) (pc := 62) (v := nI 0) dX8_merges_62 (by decide) ?_
        refine x_zret (M := mX8_merges) (pc := 63) dX8_merges_63 rfl (by first | with_reducible exact xz0 | with_reducible exact xz1 | with_reducible exact bI_01 _ | with_reducible assumption | assumption) (by first | exact Nat.le_of_ble_eq_true rfl | omega) (by first | exact Nat.le_of_ble_eq_true rfl | omega) ?_
        exact hEE
      · omega
    · rw [show decide (a ≠ b) = true by simp [q]] at hEE
      refine x_iload_n (M := mX8_merges) (pc := 52) dX8_merges_52 rfl ?_
      refine x_iload (M := mX8_merges) (pc := 53) dX8_merges_53 rfl ?_
      first | with_reducible refine x_icmp_eqN (M := mX8_merges) (pc := 55) 62 dX8_merges_55 (by decide) (by omega) (by omega) (fun c55 => ?_) (fun c55 => ?_) | refine x_icmp_eq (M := mX8_merges) (pc := 55) 62 dX8_merges_55 (by decide) (fun c55 => ?_) (fun c55 => ?_)
      · omega
      · refine x_iconst (M := mX8_merges) (pc := 58) (v := nI 1) dX8_merges_58 (by decide) ?_
        refine x_goto (M := mX8_merges) (pc := 59) 63 dX8_merges_59 (by decide) ?_
        refine x_zret (M := mX8_merges) (pc := 63) dX8_merges_63 rfl (by first | with_reducible exact xz0 | with_reducible exact xz1 | with_reducible exact bI_01 _ | with_reducible assumption | assumption) (by first | exact Nat.le_of_ble_eq_true rfl | omega) (by first | exact Nat.le_of_ble_eq_true rfl | omega) ?_
        exact hEE
  | succ m ih =>
    intro k hk h1 T hT h2 h3 hle
    by_cases q : a = b
    · have hEE := hE h1 T hT (fun t ht => by
        subst q; rw [jn_same]
        rcases Nat.lt_or_ge t k with z | z
        · rw [h2 t z, jn_same]
        · exact h3 t z ht) hle
      rw [show decide (a ≠ b) = false by simp [q]] at hEE
      refine x_iload (M := mX8_merges) (pc := 12) dX8_merges_12 rfl ?_
      refine x_aload_n (M := mX8_merges) (pc := 14) dX8_merges_14 rfl ?_
      refine x_alen (M := mX8_merges) (pc := 15) dX8_merges_15 (by first | assumption | exact xu_s _ _ _ | exact (xu_n (by first | assumption | exact Ne.symm (by assumption) | exact xu_fresh (by assumption) (by assumption) | exact (xu_fresh (by assumption) (by assumption)).symm)).trans (by first | assumption | exact xu_s _ _ _ | exact (xu_n (by first | assumption | exact Ne.symm (by assumption) | exact xu_fresh (by assumption) (by assumption) | exact (xu_fresh (by assumption) (by assumption)).symm)).trans (by first | assumption | exact xu_s _ _ _ | exact (xu_n (by first | assumption | exact Ne.symm (by assumption) | exact xu_fresh (by assumption) (by assumption) | exact (xu_fresh (by assumption) (by assumption)).symm)).trans (by first | assumption | exact xu_s _ _ _)))) rfl ?_
      first | with_reducible refine x_icmp_geN (M := mX8_merges) (pc := 16) 52 dX8_merges_16 (by decide) (by omega) (by omega) (fun c16 => ?_) (fun c16 => ?_) | refine x_icmp_ge (M := mX8_merges) (pc := 16) 52 dX8_merges_16 (by decide) (fun c16 => ?_) (fun c16 => ?_)
      omega
      refine x_iload_n (M := mX8_merges) (pc := 19) dX8_merges_19 rfl ?_
      refine x_iload (M := mX8_merges) (pc := 20) dX8_merges_20 rfl ?_
      first | with_reducible refine x_icmp_eqN (M := mX8_merges) (pc := 22) 52 dX8_merges_22 (by decide) (by omega) (by omega) (fun c22 => ?_) (fun c22 => ?_) | refine x_icmp_eq (M := mX8_merges) (pc := 22) 52 dX8_merges_22 (by decide) (fun c22 => ?_) (fun c22 => ?_)
      rotate_left
      omega
      refine x_iload_n (M := mX8_merges) (pc := 52) dX8_merges_52 rfl ?_
      refine x_iload (M := mX8_merges) (pc := 53) dX8_merges_53 rfl ?_
      first | with_reducible refine x_icmp_eqN (M := mX8_merges) (pc := 55) 62 dX8_merges_55 (by decide) (by omega) (by omega) (fun c55 => ?_) (fun c55 => ?_) | refine x_icmp_eq (M := mX8_merges) (pc := 55) 62 dX8_merges_55 (by decide) (fun c55 => ?_) (fun c55 => ?_)
      · refine x_iconst (M := mX8_merges) (pc := 62) (v := nI 0) dX8_merges_62 (by decide) ?_
        refine x_zret (M := mX8_merges) (pc := 63) dX8_merges_63 rfl (by first | with_reducible exact xz0 | with_reducible exact xz1 | with_reducible exact bI_01 _ | with_reducible assumption | assumption) (by first | exact Nat.le_of_ble_eq_true rfl | omega) (by first | exact Nat.le_of_ble_eq_true rfl | omega) ?_
        exact hEE
      · omega
    · have hTk : T k = nI (P k) := h3 k (by omega) (by omega)
      have hPk := hP k (by omega)
      refine x_iload (M := mX8_merges) (pc := 12) dX8_merges_12 rfl ?_
      refine x_aload_n (M := mX8_merges) (pc := 14) dX8_merges_14 rfl ?_
      refine x_alen (M := mX8_merges) (pc := 15) dX8_merges_15 (by first | assumption | exact xu_s _ _ _ | exact (xu_n (by first | assumption | exact Ne.symm (by assumption) | exact xu_fresh (by assumption) (by assumption) | exact (xu_fresh (by assumption) (by assumption)).symm)).trans (by first | assumption | exact xu_s _ _ _ | exact (xu_n (by first | assumption | exact Ne.symm (by assumption) | exact xu_fresh (by assumption) (by assumption) | exact (xu_fresh (by assumption) (by assumption)).symm)).trans (by first | assumption | exact xu_s _ _ _ | exact (xu_n (by first | assumption | exact Ne.symm (by assumption) | exact xu_fresh (by assumption) (by assumption) | exact (xu_fresh (by assumption) (by assumption)).symm)).trans (by first | assumption | exact xu_s _ _ _)))) rfl ?_
      first | with_reducible refine x_icmp_geN (M := mX8_merges) (pc := 16) 52 dX8_merges_16 (by decide) (by omega) (by omega) (fun c16 => ?_) (fun c16 => ?_) | refine x_icmp_ge (M := mX8_merges) (pc := 16) 52 dX8_merges_16 (by decide) (fun c16 => ?_) (fun c16 => ?_)
      omega
      refine x_iload_n (M := mX8_merges) (pc := 19) dX8_merges_19 rfl ?_
      refine x_iload (M := mX8_merges) (pc := 20) dX8_merges_20 rfl ?_
      first | with_reducible refine x_icmp_eqN (M := mX8_merges) (pc := 22) 52 dX8_merges_22 (by decide) (by omega) (by omega) (fun c22 => ?_) (fun c22 => ?_) | refine x_icmp_eq (M := mX8_merges) (pc := 22) 52 dX8_merges_22 (by decide) (fun c22 => ?_) (fun c22 => ?_)
      omega
      refine x_aload_n (M := mX8_merges) (pc := 25) dX8_merges_25 rfl ?_
      refine x_iload (M := mX8_merges) (pc := 26) dX8_merges_26 rfl ?_
      refine x_joinV 45 (nI (p_jn P a b k)) (fun J => ?_) ?_
      · refine x_aload_n (M := mX8_merges) (pc := 28) dX8_merges_28 rfl ?_
        refine x_iload (M := mX8_merges) (pc := 29) dX8_merges_29 rfl ?_
        refine x_ialdN (M := mX8_merges) (pc := 31) _ dX8_merges_31 (by first | assumption | exact xu_s _ _ _ | exact (xu_n (by first | assumption | exact Ne.symm (by assumption) | exact xu_fresh (by assumption) (by assumption) | exact (xu_fresh (by assumption) (by assumption)).symm)).trans (by first | assumption | exact xu_s _ _ _ | exact (xu_n (by first | assumption | exact Ne.symm (by assumption) | exact xu_fresh (by assumption) (by assumption) | exact (xu_fresh (by assumption) (by assumption)).symm)).trans (by first | assumption | exact xu_s _ _ _ | exact (xu_n (by first | assumption | exact Ne.symm (by assumption) | exact xu_fresh (by assumption) (by assumption) | exact (xu_fresh (by assumption) (by assumption)).symm)).trans (by first | assumption | exact xu_s _ _ _)))) (by first | rfl | assumption) (by first | assumption | omega) (by first | decide | omega) ?_
        refine x_val (M := mX8_merges) (pc := 32) (hTk) ?_
        refine x_iload_n (M := mX8_merges) (pc := 32) dX8_merges_32 rfl ?_
        first | with_reducible refine x_icmp_neN (M := mX8_merges) (pc := 33) 41 dX8_merges_33 (by decide) (by omega) (by omega) (fun c33 => ?_) (fun c33 => ?_) | refine x_icmp_ne (M := mX8_merges) (pc := 33) 41 dX8_merges_33 (by decide) (fun c33 => ?_) (fun c33 => ?_)
        · refine x_aload_n (M := mX8_merges) (pc := 41) dX8_merges_41 rfl ?_
          refine x_iload (M := mX8_merges) (pc := 42) dX8_merges_42 rfl ?_
          refine x_ialdN (M := mX8_merges) (pc := 44) _ dX8_merges_44 (by first | assumption | exact xu_s _ _ _ | exact (xu_n (by first | assumption | exact Ne.symm (by assumption) | exact xu_fresh (by assumption) (by assumption) | exact (xu_fresh (by assumption) (by assumption)).symm)).trans (by first | assumption | exact xu_s _ _ _ | exact (xu_n (by first | assumption | exact Ne.symm (by assumption) | exact xu_fresh (by assumption) (by assumption) | exact (xu_fresh (by assumption) (by assumption)).symm)).trans (by first | assumption | exact xu_s _ _ _ | exact (xu_n (by first | assumption | exact Ne.symm (by assumption) | exact xu_fresh (by assumption) (by assumption) | exact (xu_fresh (by assumption) (by assumption)).symm)).trans (by first | assumption | exact xu_s _ _ _)))) (by first | rfl | assumption) (by first | assumption | omega) (by first | decide | omega) ?_
          refine x_val (M := mX8_merges) (pc := 45) (hTk) ?_
          exact J _ (by unfold p_jn; first | rw [if_pos c33] | rw [if_neg c33])
        · refine x_iload (M := mX8_merges) (pc := 36) dX8_merges_36 rfl ?_
          refine x_goto (M := mX8_merges) (pc := 38) 45 dX8_merges_38 (by decide) ?_
          exact J _ (by unfold p_jn; first | rw [if_pos c33] | rw [if_neg c33])
      refine x_iastN (M := mX8_merges) (pc := 45) _ dX8_merges_45 (by first | assumption | exact xu_s _ _ _ | exact (xu_n (by first | assumption | exact Ne.symm (by assumption) | exact xu_fresh (by assumption) (by assumption) | exact (xu_fresh (by assumption) (by assumption)).symm)).trans (by first | assumption | exact xu_s _ _ _ | exact (xu_n (by first | assumption | exact Ne.symm (by assumption) | exact xu_fresh (by assumption) (by assumption) | exact (xu_fresh (by assumption) (by assumption)).symm)).trans (by first | assumption | exact xu_s _ _ _ | exact (xu_n (by first | assumption | exact Ne.symm (by assumption) | exact xu_fresh (by assumption) (by assumption) | exact (xu_fresh (by assumption) (by assumption)).symm)).trans (by first | assumption | exact xu_s _ _ _)))) (by first | rfl | assumption) (by first | assumption | omega) (by first | decide | omega) ?_
      rotate_left
      first | refine x_iinc5N (M := mX8_merges) (pc := 46) (c := 1) dX8_merges_46 oI1 ?_ | refine x_iinc5 (M := mX8_merges) (pc := 46) (c := 1) dX8_merges_46 (by decide) ?_
      refine x_goto (M := mX8_merges) (pc := 49) 12 dX8_merges_49 (by decide) ?_
      refine ih (k + 1) (by omega) _ _ (xu_s _ _ _) (fun t ht => ?_) (fun t ht ht2 => ?_) (fun x e nx hx => (xu_n nx).trans (hle x e nx hx))
      · unfold upd; split
        · next z => rw [z]
        · exact h2 t (by omega)
      · unfold upd; rw [if_neg (by omega)]; exact h3 t (by omega) ht2
theorem c_merges (h : xH) (pa n x y d : Nat) (hn : n ≤ 16) (P : Nat → Nat) (hP : ∀ k, k < n → P k < 16) (hx : x < n) (hy : y < n) (T : Nat → Int32) (hpa : h pa = some (.inl (xdA g 0, n, .inl T))) (hT : ∀ k, k < n → T k = nI (P k)) :
    Ct g l mX8_merges d 0 0 [.ref pa, .int (nI x), .int (nI y)] h (fun o h' => o = .inl (some (.int (bI (decide (P x ≠ P y))))) ∧ ∃ T', h' pa = some (.inl (xdA g 0, n, .inl T')) ∧ (∀ k, k < n → T' k = nI (p_jn P (P x) (P y) k)) ∧ xle1 pa h h') := by
  refine Ct.of [some (.ref pa), some (.int (nI x)), some (.int (nI y)), none, none, none] (by decide +kernel) rfl (Nat.le_of_ble_eq_true rfl) rfl rfl ?_
  refine x_aload_n (M := mX8_merges) (pc := 0) dX8_merges_0 rfl ?_
  refine x_iload_n (M := mX8_merges) (pc := 1) dX8_merges_1 rfl ?_
  refine x_ialdN (M := mX8_merges) (pc := 2) _ dX8_merges_2 (by first | assumption | exact xu_s _ _ _ | exact (xu_n (by first | assumption | exact Ne.symm (by assumption) | exact xu_fresh (by assumption) (by assumption) | exact (xu_fresh (by assumption) (by assumption)).symm)).trans (by first | assumption | exact xu_s _ _ _ | exact (xu_n (by first | assumption | exact Ne.symm (by assumption) | exact xu_fresh (by assumption) (by assumption) | exact (xu_fresh (by assumption) (by assumption)).symm)).trans (by first | assumption | exact xu_s _ _ _ | exact (xu_n (by first | assumption | exact Ne.symm (by assumption) | exact xu_fresh (by assumption) (by assumption) | exact (xu_fresh (by assumption) (by assumption)).symm)).trans (by first | assumption | exact xu_s _ _ _)))) (by first | rfl | assumption) (by first | assumption | omega) (by first | decide | omega) ?_
  refine x_val (M := mX8_merges) (pc := 3) (hT y hy) ?_
  refine x_istore3 (M := mX8_merges) (pc := 3) dX8_merges_3 ?_
  refine x_aload_n (M := mX8_merges) (pc := 4) dX8_merges_4 rfl ?_
  refine x_iload_n (M := mX8_merges) (pc := 5) dX8_merges_5 rfl ?_
  refine x_ialdN (M := mX8_merges) (pc := 6) _ dX8_merges_6 (by first | assumption | exact xu_s _ _ _ | exact (xu_n (by first | assumption | exact Ne.symm (by assumption) | exact xu_fresh (by assumption) (by assumption) | exact (xu_fresh (by assumption) (by assumption)).symm)).trans (by first | assumption | exact xu_s _ _ _ | exact (xu_n (by first | assumption | exact Ne.symm (by assumption) | exact xu_fresh (by assumption) (by assumption) | exact (xu_fresh (by assumption) (by assumption)).symm)).trans (by first | assumption | exact xu_s _ _ _ | exact (xu_n (by first | assumption | exact Ne.symm (by assumption) | exact xu_fresh (by assumption) (by assumption) | exact (xu_fresh (by assumption) (by assumption)).symm)).trans (by first | assumption | exact xu_s _ _ _)))) (by first | rfl | assumption) (by first | assumption | omega) (by first | decide | omega) ?_
  refine x_val (M := mX8_merges) (pc := 7) (hT x hx) ?_
  refine x_istore4 (M := mX8_merges) (pc := 7) dX8_merges_7 ?_
  refine x_iconst (M := mX8_merges) (pc := 9) (v := nI 0) dX8_merges_9 (by decide) ?_
  refine x_istore5 (M := mX8_merges) (pc := 10) dX8_merges_10 ?_
  exact j_mgL h pa n d (P x) (P y) hn P hP (hP x hx) (hP y hy) _ _ _ (fun h1 T' z1 z2 z3 => ⟨rfl, T', z1, z2, z3⟩) n 0 (by omega) h T hpa (fun t ht => absurd ht (Nat.not_lt_zero _)) (fun t _ ht => hT t ht) (fun _ _ _ z => z)
theorem c_stapled (h : xH) (bk sh d : Nat) (hd : 1 ≤ d) (s : Row) (ly : Nat → Lay) (hB : BS g h bk sh s ly) : Ct g l mX8_stapled d 0 0 [.ref bk] h (fun o h' => o = .inl (some (.int (nI (if zN s 9 = 0 then 0 else min (zN s 10) (zHi s * zWi s))))) ∧ h' = h) := by
  obtain ⟨P, sx, sy, La, xs, J, ⟨lv, jl, ja, cap, sb, hbk, ⟨f, hlv, hf⟩, hly, hJO, hsb⟩, hS, hW, hp, hper, hJ32⟩ := hB
  have hWb := hW.b
  have h9 := hW.2.2.2.1.2
  have h10 := hW.2.2.2.2.1.2.2
  have hsh := hS.1
  unfold shE at hsh
  refine Ct.of [some (.ref bk)] (by decide +kernel) rfl (Nat.le_of_ble_eq_true rfl) rfl rfl ?_
  refine x_aload_n (M := mX8_stapled) (pc := 0) dX8_stapled_0 rfl ?_
  refine x_get (M := mX8_stapled) (pc := 1) kcX8 0 rfl q1198 dX8_stapled_1 (by first | assumption | exact xu_s _ _ _ | exact (xu_n (by first | assumption | exact Ne.symm (by assumption) | exact xu_fresh (by assumption) (by assumption) | exact (xu_fresh (by assumption) (by assumption)).symm)).trans (by first | assumption | exact xu_s _ _ _ | exact (xu_n (by first | assumption | exact Ne.symm (by assumption) | exact xu_fresh (by assumption) (by assumption) | exact (xu_fresh (by assumption) (by assumption)).symm)).trans (by first | assumption | exact xu_s _ _ _ | exact (xu_n (by first | assumption | exact Ne.symm (by assumption) | exact xu_fresh (by assumption) (by assumption) | exact (xu_fresh (by assumption) (by assumption)).symm)).trans (by first | assumption | exact xu_s _ _ _)))) rfl ?_
  refine x_getN (M := mX8_stapled) (pc := 4) kcX2 8 rfl q248 dX8_stapled_4 (by first | assumption | exact xu_s _ _ _ | exact (xu_n (by first | assumption | exact Ne.symm (by assumption) | exact xu_fresh (by assumption) (by assumption) | exact (xu_fresh (by assumption) (by assumption)).symm)).trans (by first | assumption | exact xu_s _ _ _ | exact (xu_n (by first | assumption | exact Ne.symm (by assumption) | exact xu_fresh (by assumption) (by assumption) | exact (xu_fresh (by assumption) (by assumption)).symm)).trans (by first | assumption | exact xu_s _ _ _ | exact (xu_n (by first | assumption | exact Ne.symm (by assumption) | exact xu_fresh (by assumption) (by assumption) | exact (xu_fresh (by assumption) (by assumption)).symm)).trans (by first | assumption | exact xu_s _ _ _)))) rfl ?_
  first | with_reducible refine x_ifB_ne (M := mX8_stapled) (pc := 7) 14 dX8_stapled_7 (by decide) (fun c7 => ?_) (fun c7 => ?_) | with_reducible refine x_if_neN (M := mX8_stapled) (pc := 7) 14 dX8_stapled_7 (by decide) (by omega) (fun c7 => ?_) (fun c7 => ?_) | refine x_if_ne (M := mX8_stapled) (pc := 7) 14 dX8_stapled_7 (by decide) (fun c7 => ?_) (fun c7 => ?_)
  · refine x_aload_n (M := mX8_stapled) (pc := 14) dX8_stapled_14 rfl ?_
    refine x_get (M := mX8_stapled) (pc := 15) kcX8 0 rfl q1198 dX8_stapled_15 (by first | assumption | exact xu_s _ _ _ | exact (xu_n (by first | assumption | exact Ne.symm (by assumption) | exact xu_fresh (by assumption) (by assumption) | exact (xu_fresh (by assumption) (by assumption)).symm)).trans (by first | assumption | exact xu_s _ _ _ | exact (xu_n (by first | assumption | exact Ne.symm (by assumption) | exact xu_fresh (by assumption) (by assumption) | exact (xu_fresh (by assumption) (by assumption)).symm)).trans (by first | assumption | exact xu_s _ _ _ | exact (xu_n (by first | assumption | exact Ne.symm (by assumption) | exact xu_fresh (by assumption) (by assumption) | exact (xu_fresh (by assumption) (by assumption)).symm)).trans (by first | assumption | exact xu_s _ _ _)))) rfl ?_
    refine x_getN (M := mX8_stapled) (pc := 18) kcX2 9 rfl q252 dX8_stapled_18 (by first | assumption | exact xu_s _ _ _ | exact (xu_n (by first | assumption | exact Ne.symm (by assumption) | exact xu_fresh (by assumption) (by assumption) | exact (xu_fresh (by assumption) (by assumption)).symm)).trans (by first | assumption | exact xu_s _ _ _ | exact (xu_n (by first | assumption | exact Ne.symm (by assumption) | exact xu_fresh (by assumption) (by assumption) | exact (xu_fresh (by assumption) (by assumption)).symm)).trans (by first | assumption | exact xu_s _ _ _ | exact (xu_n (by first | assumption | exact Ne.symm (by assumption) | exact xu_fresh (by assumption) (by assumption) | exact (xu_fresh (by assumption) (by assumption)).symm)).trans (by first | assumption | exact xu_s _ _ _)))) rfl ?_
    refine x_aload_n (M := mX8_stapled) (pc := 21) dX8_stapled_21 rfl ?_
    refine x_get (M := mX8_stapled) (pc := 22) kcX8 1 rfl q1200 dX8_stapled_22 (by first | assumption | exact xu_s _ _ _ | exact (xu_n (by first | assumption | exact Ne.symm (by assumption) | exact xu_fresh (by assumption) (by assumption) | exact (xu_fresh (by assumption) (by assumption)).symm)).trans (by first | assumption | exact xu_s _ _ _ | exact (xu_n (by first | assumption | exact Ne.symm (by assumption) | exact xu_fresh (by assumption) (by assumption) | exact (xu_fresh (by assumption) (by assumption)).symm)).trans (by first | assumption | exact xu_s _ _ _ | exact (xu_n (by first | assumption | exact Ne.symm (by assumption) | exact xu_fresh (by assumption) (by assumption) | exact (xu_fresh (by assumption) (by assumption)).symm)).trans (by first | assumption | exact xu_s _ _ _)))) rfl ?_
    refine x_alen (M := mX8_stapled) (pc := 25) dX8_stapled_25 (by first | assumption | exact xu_s _ _ _ | exact (xu_n (by first | assumption | exact Ne.symm (by assumption) | exact xu_fresh (by assumption) (by assumption) | exact (xu_fresh (by assumption) (by assumption)).symm)).trans (by first | assumption | exact xu_s _ _ _ | exact (xu_n (by first | assumption | exact Ne.symm (by assumption) | exact xu_fresh (by assumption) (by assumption) | exact (xu_fresh (by assumption) (by assumption)).symm)).trans (by first | assumption | exact xu_s _ _ _ | exact (xu_n (by first | assumption | exact Ne.symm (by assumption) | exact xu_fresh (by assumption) (by assumption) | exact (xu_fresh (by assumption) (by assumption)).symm)).trans (by first | assumption | exact xu_s _ _ _)))) rfl ?_
    refine x_mmin (M := mX8_stapled) (pc := 26) q1145 dX8_stapled_26 (by omega) (by omega) (by first | assumption | omega) (by first | exact Nat.le_of_ble_eq_true rfl | omega) (by first | exact Nat.le_of_ble_eq_true rfl | omega) (by first | exact Nat.le_of_ble_eq_true rfl | (simp [xcat_rf, Value.category])) ?_
    refine x_iret (M := mX8_stapled) (pc := 29) dX8_stapled_29 rfl (by first | exact Nat.le_of_ble_eq_true rfl | omega) (by first | exact Nat.le_of_ble_eq_true rfl | omega) ?_
    exact ⟨by first | rw [if_pos (by assumption)] | rw [if_neg (by assumption)], rfl⟩
  · refine x_iconst (M := mX8_stapled) (pc := 10) (v := nI 0) dX8_stapled_10 (by decide) ?_
    refine x_goto (M := mX8_stapled) (pc := 11) 29 dX8_stapled_11 (by decide) ?_
    refine x_iret (M := mX8_stapled) (pc := 29) dX8_stapled_29 rfl (by first | exact Nat.le_of_ble_eq_true rfl | omega) (by first | exact Nat.le_of_ble_eq_true rfl | omega) ?_
    exact ⟨by first | rw [if_pos (by assumption)] | rw [if_neg (by assumption)], rfl⟩
theorem heldE_app (c : Nat) (a b : List Jt) : heldE c (a ++ b) = heldE c a ++ heldE c b := by simp [heldE]
theorem heldE_take {c j : Nat} {J : List Jt} (hj : j < J.length) : heldE c (J.take (j + 1)) = heldE c (J.take j) ++ (if jHas c (jD J j) then [((jD J j).1, (jD J j).2.1)] else []) := by
  rw [take_s hj, heldE_app]
  congr 1
  simp only [heldE, List.filter_cons, List.filter_nil]
  split <;> simp
theorem lbl_le (P : Nat → Nat) (n : Nat) : lbl P n ≤ 16 := by unfold lbl; exact p_ones_le _ _
/-- the state of pieces: labels P in the array pa, how many labels -/
def PCS (g : xG) (hB h1 : xH) (pa n : Nat) (P : Nat → Nat) : Prop := (∃ T, h1 pa = some (.inl (xdA g 0, n, .inl T)) ∧ ∀ k, k < n → T k = nI (P k)) ∧ xle1 pa hB h1 ∧ ∀ k, k < n → P k < n
theorem mgF_one (P : Nat → Nat) (x : Nat × Nat) : mgF P [x] = p_jn P (P x.1) (P x.2) := rfl
theorem j_pc3 (hB : xH) (bk sh pa d n st mc ms uc us : Nat) (hd : 2 ≤ d) (hn : n ≤ 16) (hst16 : st ≤ n) (s : Row) (ly : Nat → Lay) (hBS : ∀ h, xle1 pa hB h → BS g h bk sh s ly) (hst : st = if zN s 9 = 0 then 0 else min (zN s 10) (zHi s * zWi s)) (P0 : Nat → Nat) (Q : xO → xH → Prop) (hc1 : uc ≤ mc) (hc2 : us ≤ ms)
    (hE : ∀ h, PCS g hB h pa n (mgF P0 (stpE st)) → Q (.inl (some (.int (nI (lbl (mgF P0 (stpE st)) n))))) h) :
    ∀ m k, st - k ≤ m → 1 ≤ k → (k ≤ st ∨ k = 1) → ∀ mm h l4, mm = lbl (mgF P0 (stpE (min k st))) n → PCS g hB h pa n (mgF P0 (stpE (min k st))) → X g l mX8_pieces d mc ms Q 103 [some (.ref bk), some (.ref pa), some (.int (nI mm)), some (.int (nI k)), l4] [] h uc us := by
  intro m
  induction m with
  | zero =>
    intro k hm hk1 hk mm h l4 hmm hI
    subst hmm
    have e : min k st = st := by omega
    rw [e] at hI ⊢
    have hBx := hBS h hI.2.1
    refine x_iload_n (M := mX8_pieces) (pc := 103) dX8_pieces_103 rfl ?_
    refine x_aload_n (M := mX8_pieces) (pc := 104) dX8_pieces_104 rfl ?_
    refine x_V0 (M := mX8_pieces) (pc := 105) (M' := mX8_stapled) q2656 kVX8_stapled dX8_pieces_105 (c_stapled h bk sh (d - 1) (by omega) s ly hBx) (hBx.is) (fun v_ h hq_ => ?_)
    obtain ⟨hv_, rfl⟩ := hq_; cases hv_
    rotate_left
    rw [← hst]
    first | with_reducible refine x_icmp_geN (M := mX8_pieces) (pc := 108) 136 dX8_pieces_108 (by decide) (by omega) (by omega) (fun c108 => ?_) (fun c108 => ?_) | refine x_icmp_ge (M := mX8_pieces) (pc := 108) 136 dX8_pieces_108 (by decide) (fun c108 => ?_) (fun c108 => ?_)
    · refine x_iload_n (M := mX8_pieces) (pc := 136) dX8_pieces_136 rfl ?_
      refine x_iret (M := mX8_pieces) (pc := 137) dX8_pieces_137 rfl (by first | exact Nat.le_of_ble_eq_true rfl | omega) (by first | exact Nat.le_of_ble_eq_true rfl | omega) ?_
      exact hE h hI
    · omega
  | succ m ih =>
    intro k hm hk1 hk mm h l4 hmm hI
    subst hmm
    have hBx := hBS h hI.2.1
    refine x_iload_n (M := mX8_pieces) (pc := 103) dX8_pieces_103 rfl ?_
    refine x_aload_n (M := mX8_pieces) (pc := 104) dX8_pieces_104 rfl ?_
    refine x_V0 (M := mX8_pieces) (pc := 105) (M' := mX8_stapled) q2656 kVX8_stapled dX8_pieces_105 (c_stapled h bk sh (d - 1) (by omega) s ly hBx) (hBx.is) (fun v_ h hq_ => ?_)
    obtain ⟨hv_, rfl⟩ := hq_; cases hv_
    rotate_left
    rw [← hst]
    first | with_reducible refine x_icmp_geN (M := mX8_pieces) (pc := 108) 136 dX8_pieces_108 (by decide) (by omega) (by omega) (fun c108 => ?_) (fun c108 => ?_) | refine x_icmp_ge (M := mX8_pieces) (pc := 108) 136 dX8_pieces_108 (by decide) (fun c108 => ?_) (fun c108 => ?_)
    · have e : min k st = st := by omega
      rw [e] at hI ⊢
      refine x_iload_n (M := mX8_pieces) (pc := 136) dX8_pieces_136 rfl ?_
      refine x_iret (M := mX8_pieces) (pc := 137) dX8_pieces_137 rfl (by first | exact Nat.le_of_ble_eq_true rfl | omega) (by first | exact Nat.le_of_ble_eq_true rfl | omega) ?_
      exact hE h hI
    · obtain ⟨⟨T, hT, hv⟩, hle, hlt⟩ := hI
      have e1 : min k st = k := by omega
      have e2 : min (k + 1) st = k + 1 := by omega
      rw [e1] at hlt hv ⊢
      have hs2 : stpE (k + 1) = stpE k ++ [(k - 1, k)] := by rw [stpE, if_pos hk1]
      have hih := ih (k + 1) (by omega) (by omega) (by omega)
      rw [e2, hs2, mgF_app, mgF_one] at hih
      generalize hPe : mgF P0 (stpE k) = P at hlt hv hih ⊢
      have hl := lbl_le P n
      refine x_iload_n (M := mX8_pieces) (pc := 111) dX8_pieces_111 rfl ?_
      refine x_aload_n (M := mX8_pieces) (pc := 112) dX8_pieces_112 rfl ?_
      refine x_iload_n (M := mX8_pieces) (pc := 113) dX8_pieces_113 rfl ?_
      refine x_iconst (M := mX8_pieces) (pc := 114) (v := nI 1) dX8_pieces_114 (by decide) ?_
      first | with_reducible refine x_isubN (M := mX8_pieces) (pc := 115) dX8_pieces_115 (by omega) ?_ | refine x_isub (M := mX8_pieces) (pc := 115) dX8_pieces_115 ?_
      refine x_iload_n (M := mX8_pieces) (pc := 116) dX8_pieces_116 rfl ?_
      refine x_S3 (M := mX8_pieces) (pc := 117) (M' := mX8_merges) q2653 kSX8_merges dX8_pieces_117 (c_merges h pa n (k - 1) k (d - 1) hn P (fun t ht => Nat.lt_of_lt_of_le (hlt t ht) hn) (by omega) (by omega) T hT hv) (fun v_ h2 hq_ => ?_)
      obtain ⟨hv_, T', w1, w2, w3⟩ := hq_; cases hv_
      have hI2 : PCS g hB h2 pa n (p_jn P (P (k - 1)) (P k)) := ⟨⟨T', w1, w2⟩, fun a e na ha => w3 a e na (hle a e na ha), p_jn_lt hlt (hlt _ (by omega))⟩
      refine x_ifB_eq (M := mX8_pieces) (pc := 120) 127 dX8_pieces_120 (by decide) (fun c => ?_) (fun c => ?_)
      · have c : P (k - 1) = P k := by simpa using c
        refine x_iconst (M := mX8_pieces) (pc := 127) (v := nI 0) dX8_pieces_127 (by decide) ?_
        first | with_reducible refine x_isubN (M := mX8_pieces) (pc := 128) dX8_pieces_128 (by omega) ?_ | refine x_isub (M := mX8_pieces) (pc := 128) dX8_pieces_128 ?_
        refine x_istore2 (M := mX8_pieces) (pc := 129) dX8_pieces_129 ?_
        first | refine x_iinc3N (M := mX8_pieces) (pc := 130) (c := 1) dX8_pieces_130 oI1 ?_ | refine x_iinc3 (M := mX8_pieces) (pc := 130) (c := 1) dX8_pieces_130 (by decide) ?_
        refine x_goto (M := mX8_pieces) (pc := 133) 103 dX8_pieces_133 (by decide) ?_
        have := hih _ h2 l4 rfl hI2
        rw [c, jn_same] at this
        exact this
      · have c : P (k - 1) ≠ P k := by simpa using c
        have hj := lbl_jn (P := P) (n := n) (x := k - 1) (y := k) (by omega) (by omega) (fun t ht => Nat.lt_of_lt_of_le (hlt t ht) hn) c
        refine x_iconst (M := mX8_pieces) (pc := 123) (v := nI 1) dX8_pieces_123 (by decide) ?_
        refine x_goto (M := mX8_pieces) (pc := 124) 128 dX8_pieces_124 (by decide) ?_
        first | with_reducible refine x_isubN (M := mX8_pieces) (pc := 128) dX8_pieces_128 (by omega) ?_ | refine x_isub (M := mX8_pieces) (pc := 128) dX8_pieces_128 ?_
        refine x_istore2 (M := mX8_pieces) (pc := 129) dX8_pieces_129 ?_
        first | refine x_iinc3N (M := mX8_pieces) (pc := 130) (c := 1) dX8_pieces_130 oI1 ?_ | refine x_iinc3 (M := mX8_pieces) (pc := 130) (c := 1) dX8_pieces_130 (by decide) ?_
        refine x_goto (M := mX8_pieces) (pc := 133) 103 dX8_pieces_133 (by decide) ?_
        have := hih _ h2 l4 rfl hI2
        rw [show lbl P n - 1 = lbl (p_jn P (P (k - 1)) (P k)) n by omega]
        exact this
theorem j_pc2 (hB : xH) (bk sh pa d n mc ms uc us : Nat) (hd : 3 ≤ d) (hn : n ≤ 16) (s : Row) (ly : Nat → Lay) (PP : Nat → Nat) (sx sy : List Nat) (lv jl ja cap sb : Nat) (xs : List Nat) (J : List Jt) (hW : WF s) (hnn : n = zHi s * zWi s) (hk : ∀ h, xle1 pa hB h → h bk = some (.inr (8, [.ref sh, .ref lv, .ref jl, .ref sb])) ∧ SHP g h sh PP s sx sy ∧ JO g h jl ja cap xs J) (hall : ∀ x ∈ J, x.1 < x.2.1 ∧ x.2.1 < zHi s * zWi s ∧ x.2.2 < 4) (hJ32 : J.length ≤ 32) (Q : xO → xH → Prop)
    (hE : ∀ h l4, PCS g hB h pa n (mgF (fun k => k) (heldE (zN s 8) J)) → X g l mX8_pieces d mc ms Q 101 [some (.ref bk), some (.ref pa), some (.int (nI (lbl (mgF (fun k => k) (heldE (zN s 8) J)) n))), some (.int (nI J.length)), l4] [] h uc us) (hc1 : uc ≤ mc) (hc2 : us ≤ ms) :
    ∀ m j, j + m = J.length → ∀ mm h l4, mm = lbl (mgF (fun k => k) (heldE (zN s 8) (J.take j))) n → PCS g hB h pa n (mgF (fun k => k) (heldE (zN s 8) (J.take j))) → X g l mX8_pieces d mc ms Q 37 [some (.ref bk), some (.ref pa), some (.int (nI mm)), some (.int (nI j)), l4] [] h uc us := by
  intro m
  induction m with
  | zero =>
    intro j hj mm h l4 hmm hI
    subst hmm
    have : j = J.length := by omega
    subst this
    rw [List.take_length] at hI ⊢
    obtain ⟨hbk, hS, hJO⟩ := hk h hI.2.1
    have hlen := hJO.2.1
    have hal := hJO.1.al
    refine x_iload_n (M := mX8_pieces) (pc := 37) dX8_pieces_37 rfl ?_
    refine x_aload_n (M := mX8_pieces) (pc := 38) dX8_pieces_38 rfl ?_
    refine x_get (M := mX8_pieces) (pc := 39) kcX8 2 rfl q1202 dX8_pieces_39 (by first | assumption | exact xu_s _ _ _ | exact (xu_n (by first | assumption | exact Ne.symm (by assumption) | exact xu_fresh (by assumption) (by assumption) | exact (xu_fresh (by assumption) (by assumption)).symm)).trans (by first | assumption | exact xu_s _ _ _ | exact (xu_n (by first | assumption | exact Ne.symm (by assumption) | exact xu_fresh (by assumption) (by assumption) | exact (xu_fresh (by assumption) (by assumption)).symm)).trans (by first | assumption | exact xu_s _ _ _ | exact (xu_n (by first | assumption | exact Ne.symm (by assumption) | exact xu_fresh (by assumption) (by assumption) | exact (xu_fresh (by assumption) (by assumption)).symm)).trans (by first | assumption | exact xu_s _ _ _)))) rfl ?_
    refine x_V0 (M := mX8_pieces) (pc := 42) (M' := mJ2_size) q1162 kVJ2_size dX8_pieces_42 (j_size h jl ja (d - 1) xs hal) (hal.is) (fun v_ h hq_ => ?_)
    obtain ⟨hv_, rfl⟩ := hq_; cases hv_
    first | with_reducible refine x_icmp_geN (M := mX8_pieces) (pc := 45) 101 dX8_pieces_45 (by decide) (by omega) (by omega) (fun c45 => ?_) (fun c45 => ?_) | refine x_icmp_ge (M := mX8_pieces) (pc := 45) 101 dX8_pieces_45 (by decide) (fun c45 => ?_) (fun c45 => ?_)
    · exact hE h l4 hI
    · omega
  | succ m ih =>
    intro j hj mm h l4 hmm hI
    subst hmm
    obtain ⟨hbk, hS, hJO⟩ := hk h hI.2.1
    have hlen := hJO.2.1
    have hal := hJO.1.al
    have hjl : j < J.length := by omega
    have hjt := hJO.2.2 j hjl
    obtain ⟨x1, x2, x3⟩ := hall _ (jD_mem hjl)
    have his := xIs.of (g := g) kcX9 hjt
    obtain ⟨⟨T, hT, hv⟩, hle, hlt⟩ := hI
    have hih := ih (j + 1) (by omega)
    rw [heldE_take hjl, mgF_app] at hih
    generalize hPe : mgF (fun k => k) (heldE (zN s 8) (J.take j)) = P at hlt hv hih ⊢
    have hl := lbl_le P n
    refine x_iload_n (M := mX8_pieces) (pc := 37) dX8_pieces_37 rfl ?_
    refine x_aload_n (M := mX8_pieces) (pc := 38) dX8_pieces_38 rfl ?_
    refine x_get (M := mX8_pieces) (pc := 39) kcX8 2 rfl q1202 dX8_pieces_39 (by first | assumption | exact xu_s _ _ _ | exact (xu_n (by first | assumption | exact Ne.symm (by assumption) | exact xu_fresh (by assumption) (by assumption) | exact (xu_fresh (by assumption) (by assumption)).symm)).trans (by first | assumption | exact xu_s _ _ _ | exact (xu_n (by first | assumption | exact Ne.symm (by assumption) | exact xu_fresh (by assumption) (by assumption) | exact (xu_fresh (by assumption) (by assumption)).symm)).trans (by first | assumption | exact xu_s _ _ _ | exact (xu_n (by first | assumption | exact Ne.symm (by assumption) | exact xu_fresh (by assumption) (by assumption) | exact (xu_fresh (by assumption) (by assumption)).symm)).trans (by first | assumption | exact xu_s _ _ _)))) rfl ?_
    refine x_V0 (M := mX8_pieces) (pc := 42) (M' := mJ2_size) q1162 kVJ2_size dX8_pieces_42 (j_size h jl ja (d - 1) xs hal) (hal.is) (fun v_ h hq_ => ?_)
    obtain ⟨hv_, rfl⟩ := hq_; cases hv_
    first | with_reducible refine x_icmp_geN (M := mX8_pieces) (pc := 45) 101 dX8_pieces_45 (by decide) (by omega) (by omega) (fun c45 => ?_) (fun c45 => ?_) | refine x_icmp_ge (M := mX8_pieces) (pc := 45) 101 dX8_pieces_45 (by decide) (fun c45 => ?_) (fun c45 => ?_)
    omega
    refine x_aload_n (M := mX8_pieces) (pc := 48) dX8_pieces_48 rfl ?_
    refine x_get (M := mX8_pieces) (pc := 49) kcX8 2 rfl q1202 dX8_pieces_49 (by first | assumption | exact xu_s _ _ _ | exact (xu_n (by first | assumption | exact Ne.symm (by assumption) | exact xu_fresh (by assumption) (by assumption) | exact (xu_fresh (by assumption) (by assumption)).symm)).trans (by first | assumption | exact xu_s _ _ _ | exact (xu_n (by first | assumption | exact Ne.symm (by assumption) | exact xu_fresh (by assumption) (by assumption) | exact (xu_fresh (by assumption) (by assumption)).symm)).trans (by first | assumption | exact xu_s _ _ _ | exact (xu_n (by first | assumption | exact Ne.symm (by assumption) | exact xu_fresh (by assumption) (by assumption) | exact (xu_fresh (by assumption) (by assumption)).symm)).trans (by first | assumption | exact xu_s _ _ _)))) rfl ?_
    refine x_iload_n (M := mX8_pieces) (pc := 52) dX8_pieces_52 rfl ?_
    refine x_V1 (M := mX8_pieces) (pc := 53) (M' := mJ2_get) q1163 kVJ2_get dX8_pieces_53 (j_get h jl ja (d - 1) (by omega) xs hal (by omega) j (by omega)) (hal.is) (fun v_ h hq_ => ?_)
    obtain ⟨hv_, rfl⟩ := hq_; cases hv_
    refine x_cast (M := mX8_pieces) (pc := 56) q1143 dX8_pieces_56 (his) (Or.inl rfl) ?_
    refine x_astore4 (M := mX8_pieces) (pc := 59) dX8_pieces_59 ?_
    refine x_iload_n (M := mX8_pieces) (pc := 61) dX8_pieces_61 rfl ?_
    refine x_aload_n (M := mX8_pieces) (pc := 62) dX8_pieces_62 rfl ?_
    refine x_aload (M := mX8_pieces) (pc := 63) dX8_pieces_63 rfl ?_
    refine x_V1 (M := mX8_pieces) (pc := 65) (M' := mX8_isHeld) q1177 kVX8_isHeld dX8_pieces_65 (c_isHeld h bk sh _ (d - 1) (by omega) _ _ _ PP s hW _ x3 hbk hS.1 hjt) (xIs.of kcX8 hbk) (fun v_ h hq_ => ?_)
    obtain ⟨hv_, rfl⟩ := hq_; cases hv_
    first | with_reducible refine x_ifB_eq (M := mX8_pieces) (pc := 68) 92 dX8_pieces_68 (by decide) (fun c68 => ?_) (fun c68 => ?_) | with_reducible refine x_if_eqN (M := mX8_pieces) (pc := 68) 92 dX8_pieces_68 (by decide) (by omega) (fun c68 => ?_) (fun c68 => ?_) | refine x_if_eq (M := mX8_pieces) (pc := 68) 92 dX8_pieces_68 (by decide) (fun c68 => ?_) (fun c68 => ?_)
    rotate_left
    refine x_aload_n (M := mX8_pieces) (pc := 71) dX8_pieces_71 rfl ?_
    refine x_aload (M := mX8_pieces) (pc := 72) dX8_pieces_72 rfl ?_
    refine x_V0 (M := mX8_pieces) (pc := 74) (M' := mX9_upper) q1190 kVX9_upper dX8_pieces_74 (c_jtU h _ (d - 1) _ hjt) (his) (fun v_ h hq_ => ?_)
    obtain ⟨hv_, rfl⟩ := hq_; cases hv_
    refine x_aload (M := mX8_pieces) (pc := 77) dX8_pieces_77 rfl ?_
    refine x_V0 (M := mX8_pieces) (pc := 79) (M' := mX9_lower) q1194 kVX9_lower dX8_pieces_79 (c_jtL h _ (d - 1) _ hjt) (his) (fun v_ h hq_ => ?_)
    obtain ⟨hv_, rfl⟩ := hq_; cases hv_
    rotate_left
    · rw [c68] at hih
      refine x_iconst (M := mX8_pieces) (pc := 92) (v := nI 0) dX8_pieces_92 (by decide) ?_
      first | with_reducible refine x_isubN (M := mX8_pieces) (pc := 93) dX8_pieces_93 (by omega) ?_ | refine x_isub (M := mX8_pieces) (pc := 93) dX8_pieces_93 ?_
      refine x_istore2 (M := mX8_pieces) (pc := 94) dX8_pieces_94 ?_
      first | refine x_iinc3N (M := mX8_pieces) (pc := 95) (c := 1) dX8_pieces_95 oI1 ?_ | refine x_iinc3 (M := mX8_pieces) (pc := 95) (c := 1) dX8_pieces_95 (by decide) ?_
      refine x_goto (M := mX8_pieces) (pc := 98) 37 dX8_pieces_98 (by decide) ?_
      exact hih _ h _ rfl ⟨⟨T, hT, hv⟩, hle, hlt⟩
    · rw [c68, if_pos rfl, mgF_one] at hih
      refine x_S3 (M := mX8_pieces) (pc := 82) (M' := mX8_merges) q2653 kSX8_merges dX8_pieces_82 (c_merges h pa n (jD J j).1 (jD J j).2.1 (d - 1) hn P (fun t ht => Nat.lt_of_lt_of_le (hlt t ht) hn) (by omega) (by omega) T hT hv) (fun v_ h2 hq_ => ?_)
      obtain ⟨hv_, T', w1, w2, w3⟩ := hq_; cases hv_
      have hI2 : PCS g hB h2 pa n (p_jn P (P (jD J j).1) (P (jD J j).2.1)) := ⟨⟨T', w1, w2⟩, fun a e na ha => w3 a e na (hle a e na ha), p_jn_lt hlt (hlt _ (by omega))⟩
      refine x_ifB_eq (M := mX8_pieces) (pc := 85) 92 dX8_pieces_85 (by decide) (fun c => ?_) (fun c => ?_)
      · have c : P (jD J j).1 = P (jD J j).2.1 := by simpa using c
        refine x_iconst (M := mX8_pieces) (pc := 92) (v := nI 0) dX8_pieces_92 (by decide) ?_
        first | with_reducible refine x_isubN (M := mX8_pieces) (pc := 93) dX8_pieces_93 (by omega) ?_ | refine x_isub (M := mX8_pieces) (pc := 93) dX8_pieces_93 ?_
        refine x_istore2 (M := mX8_pieces) (pc := 94) dX8_pieces_94 ?_
        first | refine x_iinc3N (M := mX8_pieces) (pc := 95) (c := 1) dX8_pieces_95 oI1 ?_ | refine x_iinc3 (M := mX8_pieces) (pc := 95) (c := 1) dX8_pieces_95 (by decide) ?_
        refine x_goto (M := mX8_pieces) (pc := 98) 37 dX8_pieces_98 (by decide) ?_
        have := hih _ h2 (some (.ref (xs.getD j 0))) rfl hI2
        rw [c, jn_same] at this
        exact this
      · have c : P (jD J j).1 ≠ P (jD J j).2.1 := by simpa using c
        have hj := lbl_jn (P := P) (n := n) (x := (jD J j).1) (y := (jD J j).2.1) (by omega) (by omega) (fun t ht => Nat.lt_of_lt_of_le (hlt t ht) hn) c
        refine x_iconst (M := mX8_pieces) (pc := 88) (v := nI 1) dX8_pieces_88 (by decide) ?_
        refine x_goto (M := mX8_pieces) (pc := 89) 93 dX8_pieces_89 (by decide) ?_
        first | with_reducible refine x_isubN (M := mX8_pieces) (pc := 93) dX8_pieces_93 (by omega) ?_ | refine x_isub (M := mX8_pieces) (pc := 93) dX8_pieces_93 ?_
        refine x_istore2 (M := mX8_pieces) (pc := 94) dX8_pieces_94 ?_
        first | refine x_iinc3N (M := mX8_pieces) (pc := 95) (c := 1) dX8_pieces_95 oI1 ?_ | refine x_iinc3 (M := mX8_pieces) (pc := 95) (c := 1) dX8_pieces_95 (by decide) ?_
        refine x_goto (M := mX8_pieces) (pc := 98) 37 dX8_pieces_98 (by decide) ?_
        have := hih _ h2 (some (.ref (xs.getD j 0))) rfl hI2
        rw [show lbl P n - 1 = lbl (p_jn P (P (jD J j).1) (P (jD J j).2.1)) n by omega]
        exact this
theorem j_pc1 (hB : xH) (bk pa d n mc ms uc us : Nat) (v0 v2 v3 : Value) (lv : Nat) (f : Nat → Option Nat) (hn : n ≤ 16) (hbk : hB bk = some (.inr (8, [v0, .ref lv, v2, v3]))) (hlv : hB lv = some (.inl (xdA g 4, n, .inr (.inr (.inr (.inr f)))))) (n1 : bk ≠ pa) (n2 : lv ≠ pa) (Q : xO → xH → Prop)
    (hE : ∀ h1, PCS g hB h1 pa n (fun k => k) → X g l mX8_pieces d mc ms Q 29 [some (.ref bk), some (.ref pa), some (.int (nI n)), none, none] [] h1 uc us) :
    ∀ m k, k + m = n → ∀ h1 T, h1 pa = some (.inl (xdA g 0, n, .inl T)) → (∀ t, t < k → T t = nI t) → xle1 pa hB h1 → X g l mX8_pieces d mc ms Q 10 [some (.ref bk), some (.ref pa), some (.int (nI k)), none, none] [] h1 uc us := by
  intro m
  induction m with
  | zero =>
    intro k hk h1 T hT hv hle
    have : k = n := by omega
    subst this
    have hbk1 := hle _ _ n1 hbk
    have hlv1 := hle _ _ n2 hlv
    refine x_iload_n (M := mX8_pieces) (pc := 10) dX8_pieces_10 rfl ?_
    refine x_aload_n (M := mX8_pieces) (pc := 11) dX8_pieces_11 rfl ?_
    refine x_get (M := mX8_pieces) (pc := 12) kcX8 1 rfl q1200 dX8_pieces_12 (by first | assumption | exact xu_s _ _ _ | exact (xu_n (by first | assumption | exact Ne.symm (by assumption) | exact xu_fresh (by assumption) (by assumption) | exact (xu_fresh (by assumption) (by assumption)).symm)).trans (by first | assumption | exact xu_s _ _ _ | exact (xu_n (by first | assumption | exact Ne.symm (by assumption) | exact xu_fresh (by assumption) (by assumption) | exact (xu_fresh (by assumption) (by assumption)).symm)).trans (by first | assumption | exact xu_s _ _ _ | exact (xu_n (by first | assumption | exact Ne.symm (by assumption) | exact xu_fresh (by assumption) (by assumption) | exact (xu_fresh (by assumption) (by assumption)).symm)).trans (by first | assumption | exact xu_s _ _ _)))) rfl ?_
    refine x_alen (M := mX8_pieces) (pc := 15) dX8_pieces_15 (by first | assumption | exact xu_s _ _ _ | exact (xu_n (by first | assumption | exact Ne.symm (by assumption) | exact xu_fresh (by assumption) (by assumption) | exact (xu_fresh (by assumption) (by assumption)).symm)).trans (by first | assumption | exact xu_s _ _ _ | exact (xu_n (by first | assumption | exact Ne.symm (by assumption) | exact xu_fresh (by assumption) (by assumption) | exact (xu_fresh (by assumption) (by assumption)).symm)).trans (by first | assumption | exact xu_s _ _ _ | exact (xu_n (by first | assumption | exact Ne.symm (by assumption) | exact xu_fresh (by assumption) (by assumption) | exact (xu_fresh (by assumption) (by assumption)).symm)).trans (by first | assumption | exact xu_s _ _ _)))) rfl ?_
    first | with_reducible refine x_icmp_geN (M := mX8_pieces) (pc := 16) 29 dX8_pieces_16 (by decide) (by omega) (by omega) (fun c16 => ?_) (fun c16 => ?_) | refine x_icmp_ge (M := mX8_pieces) (pc := 16) 29 dX8_pieces_16 (by decide) (fun c16 => ?_) (fun c16 => ?_)
    · exact hE h1 ⟨⟨T, hT, hv⟩, hle, fun _ q => q⟩
    · omega
  | succ m ih =>
    intro k hk h1 T hT hv hle
    have hbk1 := hle _ _ n1 hbk
    have hlv1 := hle _ _ n2 hlv
    refine x_iload_n (M := mX8_pieces) (pc := 10) dX8_pieces_10 rfl ?_
    refine x_aload_n (M := mX8_pieces) (pc := 11) dX8_pieces_11 rfl ?_
    refine x_get (M := mX8_pieces) (pc := 12) kcX8 1 rfl q1200 dX8_pieces_12 (by first | assumption | exact xu_s _ _ _ | exact (xu_n (by first | assumption | exact Ne.symm (by assumption) | exact xu_fresh (by assumption) (by assumption) | exact (xu_fresh (by assumption) (by assumption)).symm)).trans (by first | assumption | exact xu_s _ _ _ | exact (xu_n (by first | assumption | exact Ne.symm (by assumption) | exact xu_fresh (by assumption) (by assumption) | exact (xu_fresh (by assumption) (by assumption)).symm)).trans (by first | assumption | exact xu_s _ _ _ | exact (xu_n (by first | assumption | exact Ne.symm (by assumption) | exact xu_fresh (by assumption) (by assumption) | exact (xu_fresh (by assumption) (by assumption)).symm)).trans (by first | assumption | exact xu_s _ _ _)))) rfl ?_
    refine x_alen (M := mX8_pieces) (pc := 15) dX8_pieces_15 (by first | assumption | exact xu_s _ _ _ | exact (xu_n (by first | assumption | exact Ne.symm (by assumption) | exact xu_fresh (by assumption) (by assumption) | exact (xu_fresh (by assumption) (by assumption)).symm)).trans (by first | assumption | exact xu_s _ _ _ | exact (xu_n (by first | assumption | exact Ne.symm (by assumption) | exact xu_fresh (by assumption) (by assumption) | exact (xu_fresh (by assumption) (by assumption)).symm)).trans (by first | assumption | exact xu_s _ _ _ | exact (xu_n (by first | assumption | exact Ne.symm (by assumption) | exact xu_fresh (by assumption) (by assumption) | exact (xu_fresh (by assumption) (by assumption)).symm)).trans (by first | assumption | exact xu_s _ _ _)))) rfl ?_
    first | with_reducible refine x_icmp_geN (M := mX8_pieces) (pc := 16) 29 dX8_pieces_16 (by decide) (by omega) (by omega) (fun c16 => ?_) (fun c16 => ?_) | refine x_icmp_ge (M := mX8_pieces) (pc := 16) 29 dX8_pieces_16 (by decide) (fun c16 => ?_) (fun c16 => ?_)
    omega
    rotate_left
    refine x_aload_n (M := mX8_pieces) (pc := 19) dX8_pieces_19 rfl ?_
    refine x_iload_n (M := mX8_pieces) (pc := 20) dX8_pieces_20 rfl ?_
    refine x_iload_n (M := mX8_pieces) (pc := 21) dX8_pieces_21 rfl ?_
    refine x_iastN (M := mX8_pieces) (pc := 22) _ dX8_pieces_22 (by first | assumption | exact xu_s _ _ _ | exact (xu_n (by first | assumption | exact Ne.symm (by assumption) | exact xu_fresh (by assumption) (by assumption) | exact (xu_fresh (by assumption) (by assumption)).symm)).trans (by first | assumption | exact xu_s _ _ _ | exact (xu_n (by first | assumption | exact Ne.symm (by assumption) | exact xu_fresh (by assumption) (by assumption) | exact (xu_fresh (by assumption) (by assumption)).symm)).trans (by first | assumption | exact xu_s _ _ _ | exact (xu_n (by first | assumption | exact Ne.symm (by assumption) | exact xu_fresh (by assumption) (by assumption) | exact (xu_fresh (by assumption) (by assumption)).symm)).trans (by first | assumption | exact xu_s _ _ _)))) (by first | rfl | assumption) (by first | assumption | omega) (by first | decide | omega) ?_
    first | refine x_iinc2N (M := mX8_pieces) (pc := 23) (c := 1) dX8_pieces_23 oI1 ?_ | refine x_iinc2 (M := mX8_pieces) (pc := 23) (c := 1) dX8_pieces_23 (by decide) ?_
    refine x_goto (M := mX8_pieces) (pc := 26) 10 dX8_pieces_26 (by decide) ?_
    refine ih (k + 1) (by omega) _ _ (xu_s _ _ _) (fun t ht => ?_) (fun a e na ha => (xu_n na).trans (hle a e na ha))
    unfold upd; split
    · next z => rw [z]
    · exact hv t (by omega)
theorem c_piecesB (h : xH) (bk sh d : Nat) (hd : 4 ≤ d) (s : Row) (ly : Nat → Lay) (hB : BS g h bk sh s ly) : Ct g l mX8_pieces d 1 16 [.ref bk] h (fun o h' => o = .inl (some (.int (nI (lbl (p_jB (fun i j => p_open (zN s 8) (p_edge (zWi s) ly i j)) (zHi s * zWi s) (fun k => if k < zHeldN s then 0 else k) (zHi s * zWi s)) (zHi s * zWi s))))) ∧ xle h h') := by
  have hB0 := hB
  obtain ⟨P, sx, sy, La, xs, J, ⟨lv, jl, ja, cap, sb, hbk, ⟨f, hlv, hf⟩, hly, hJO, hsb⟩, hS, hW, hp, hper, hJ32⟩ := hB
  have hWb := hW.b
  have h9 := hW.2.2.2.1
  have h10 := hW.2.2.2.2.1.2
  have e9 : s 9 = 0 ↔ zN s 9 = 0 := by rw [h9.1]; rw [show nI (zN s 9) = 0 ↔ zN s 9 = 0 from nI_z0 (by omega)]
  obtain ⟨st, hst⟩ : ∃ st, st = if zN s 9 = 0 then 0 else min (zN s 10) (zHi s * zWi s) := ⟨_, rfl⟩
  have hpe := pieces_eq (c := zN s 8) (held := zHeldN s) (st := st) hp (by omega) (by unfold zHeldN; split <;> omega) (fun k hk => by
    by_cases k0 : k = 0
    · exact Or.inr k0
    · left
      unfold zHeldN
      rw [hst]
      by_cases z : zN s 9 = 0
      · rw [if_pos z, if_pos (e9.mpr z)]; omega
      · rw [if_neg z, if_neg (fun w => z (e9.mp w))]; omega) (by rw [hst]; split <;> omega)
  rw [← hpe]
  refine Ct.of [some (.ref bk), none, none, none, none] (by decide +kernel) rfl (Nat.le_of_ble_eq_true rfl) rfl rfl ?_
  refine x_aload_n (M := mX8_pieces) (pc := 0) dX8_pieces_0 rfl ?_
  refine x_get (M := mX8_pieces) (pc := 1) kcX8 1 rfl q1200 dX8_pieces_1 (by first | assumption | exact xu_s _ _ _ | exact (xu_n (by first | assumption | exact Ne.symm (by assumption) | exact xu_fresh (by assumption) (by assumption) | exact (xu_fresh (by assumption) (by assumption)).symm)).trans (by first | assumption | exact xu_s _ _ _ | exact (xu_n (by first | assumption | exact Ne.symm (by assumption) | exact xu_fresh (by assumption) (by assumption) | exact (xu_fresh (by assumption) (by assumption)).symm)).trans (by first | assumption | exact xu_s _ _ _ | exact (xu_n (by first | assumption | exact Ne.symm (by assumption) | exact xu_fresh (by assumption) (by assumption) | exact (xu_fresh (by assumption) (by assumption)).symm)).trans (by first | assumption | exact xu_s _ _ _)))) rfl ?_
  refine x_alen (M := mX8_pieces) (pc := 4) dX8_pieces_4 (by first | assumption | exact xu_s _ _ _ | exact (xu_n (by first | assumption | exact Ne.symm (by assumption) | exact xu_fresh (by assumption) (by assumption) | exact (xu_fresh (by assumption) (by assumption)).symm)).trans (by first | assumption | exact xu_s _ _ _ | exact (xu_n (by first | assumption | exact Ne.symm (by assumption) | exact xu_fresh (by assumption) (by assumption) | exact (xu_fresh (by assumption) (by assumption)).symm)).trans (by first | assumption | exact xu_s _ _ _ | exact (xu_n (by first | assumption | exact Ne.symm (by assumption) | exact xu_fresh (by assumption) (by assumption) | exact (xu_fresh (by assumption) (by assumption)).symm)).trans (by first | assumption | exact xu_s _ _ _)))) rfl ?_
  refine x_newI (M := mX8_pieces) (pc := 5) _ dX8_pieces_5 (by first | rfl | assumption) (by first | exact Nat.le_of_ble_eq_true rfl | omega) (by first | exact Nat.le_of_ble_eq_true rfl | omega) (by first | exact Nat.le_of_ble_eq_true rfl | omega) (fun q5_ hq5_ hb5_ => ?_)
  (try simp only [xu_noneI] at hq5_)
  repeat (obtain ⟨_, hq5_⟩ : _ ∧ _ := hq5_)
  refine x_astore1 (M := mX8_pieces) (pc := 7) dX8_pieces_7 ?_
  refine x_iconst (M := mX8_pieces) (pc := 8) (v := nI 0) dX8_pieces_8 (by decide) ?_
  refine x_istore2 (M := mX8_pieces) (pc := 9) dX8_pieces_9 ?_
  have hle0 : ∀ h1, xle1 q5_ (xu h q5_ (.inl (xdA g 0, zHi s * zWi s, .inl fun _ => 0))) h1 → xle h h1 := fun h1 hl a e ha => hl a e (xu_fresh hq5_ ha) ((xu_n (xu_fresh hq5_ ha)).trans ha)
  refine j_pc1 (xu h q5_ (.inl (xdA g 0, zHi s * zWi s, .inl fun _ => 0))) bk q5_ d (zHi s * zWi s) _ _ _ _ _ _ _ lv f (by omega) ((xu_n (xu_fresh hq5_ hbk)).trans hbk) ((xu_n (xu_fresh hq5_ hlv)).trans hlv) (xu_fresh hq5_ hbk) (xu_fresh hq5_ hlv) _ (fun h1 hI => ?_) (zHi s * zWi s) 0 (by omega) _ _ (xu_s _ _ _) (fun t ht => absurd ht (Nat.not_lt_zero _)) (fun _ _ _ z => z)
  have hbk1 := hle0 h1 hI.2.1 _ _ hbk
  have hlv1 := hle0 h1 hI.2.1 _ _ hlv
  refine x_aload_n (M := mX8_pieces) (pc := 29) dX8_pieces_29 rfl ?_
  refine x_get (M := mX8_pieces) (pc := 30) kcX8 1 rfl q1200 dX8_pieces_30 (by first | assumption | exact xu_s _ _ _ | exact (xu_n (by first | assumption | exact Ne.symm (by assumption) | exact xu_fresh (by assumption) (by assumption) | exact (xu_fresh (by assumption) (by assumption)).symm)).trans (by first | assumption | exact xu_s _ _ _ | exact (xu_n (by first | assumption | exact Ne.symm (by assumption) | exact xu_fresh (by assumption) (by assumption) | exact (xu_fresh (by assumption) (by assumption)).symm)).trans (by first | assumption | exact xu_s _ _ _ | exact (xu_n (by first | assumption | exact Ne.symm (by assumption) | exact xu_fresh (by assumption) (by assumption) | exact (xu_fresh (by assumption) (by assumption)).symm)).trans (by first | assumption | exact xu_s _ _ _)))) rfl ?_
  refine x_alen (M := mX8_pieces) (pc := 33) dX8_pieces_33 (by first | assumption | exact xu_s _ _ _ | exact (xu_n (by first | assumption | exact Ne.symm (by assumption) | exact xu_fresh (by assumption) (by assumption) | exact (xu_fresh (by assumption) (by assumption)).symm)).trans (by first | assumption | exact xu_s _ _ _ | exact (xu_n (by first | assumption | exact Ne.symm (by assumption) | exact xu_fresh (by assumption) (by assumption) | exact (xu_fresh (by assumption) (by assumption)).symm)).trans (by first | assumption | exact xu_s _ _ _ | exact (xu_n (by first | assumption | exact Ne.symm (by assumption) | exact xu_fresh (by assumption) (by assumption) | exact (xu_fresh (by assumption) (by assumption)).symm)).trans (by first | assumption | exact xu_s _ _ _)))) rfl ?_
  refine x_istore2 (M := mX8_pieces) (pc := 34) dX8_pieces_34 ?_
  refine x_iconst (M := mX8_pieces) (pc := 35) (v := nI 0) dX8_pieces_35 (by decide) ?_
  refine x_istore3 (M := mX8_pieces) (pc := 36) dX8_pieces_36 ?_
  have hkk : ∀ h2, xle1 q5_ (xu h q5_ (.inl (xdA g 0, zHi s * zWi s, .inl fun _ => 0))) h2 → h2 bk = some (.inr (8, [.ref sh, .ref lv, .ref jl, .ref sb])) ∧ SHP g h2 sh P s sx sy ∧ JO g h2 jl ja cap xs J := fun h2 hl => ⟨hle0 h2 hl _ _ hbk, hS.le (hle0 h2 hl), hJO.le (hle0 h2 hl)⟩
  have e0 : lbl (mgF (fun k => k) (heldE (zN s 8) (J.take 0))) (zHi s * zWi s) = zHi s * zWi s := lbl_id _ (by omega)
  have e1 : stpE (min 1 st) = [] := by
    rcases Nat.eq_zero_or_pos st with z | z
    · rw [z]; rfl
    · rw [show min 1 st = 1 by omega]; rfl
  have hst16 : st ≤ zHi s * zWi s := by rw [hst]; split <;> omega
  refine j_pc2 (g := g) (l := l) (xu h q5_ (.inl (xdA g 0, zHi s * zWi s, .inl fun _ => 0))) bk sh q5_ d (zHi s * zWi s) 1 16 _ _ (by omega) (by omega) s ly P sx sy lv jl ja cap sb xs J hW rfl hkk (jt_all hp) hJ32 _ (fun h2 l4 hI2 => ?_) (by omega) (by simp only; omega) J.length 0 (by omega) _ h1 none e0.symm hI
  refine x_iconst (M := mX8_pieces) (pc := 101) (v := nI 1) dX8_pieces_101 (by decide) ?_
  refine x_istore3 (M := mX8_pieces) (pc := 102) dX8_pieces_102 ?_
  exact j_pc3 (g := g) (l := l) (xu h q5_ (.inl (xdA g 0, zHi s * zWi s, .inl fun _ => 0))) bk sh q5_ d (zHi s * zWi s) st 1 16 _ _ (by omega) (by omega) hst16 s ly (fun h3 hl => hB0.le (hle0 h3 hl)) hst (mgF (fun k => k) (heldE (zN s 8) J)) _ (by omega) (by simp only; omega) (fun h3 hI3 => ⟨by rw [mgF_app], hle0 h3 hI3.2.1⟩) st 1 (by omega) (by omega) (Or.inr rfl) _ h2 l4 (by rw [e1]; rfl) (by rw [e1]; exact hI2)
def sgD (s : Row) (k : Nat) : va_E := sgE s k
theorem c_sgP (h : xH) (a p n d : Nat) (w : Bool) (ha : h a = some (.inr (10, [.int (nI p), .int (nI n), .int (bI w)]))) : Ct g l mX10_page d 0 0 [.ref a] h (fun o h' => o = .inl (some (.int (nI p))) ∧ h' = h) := by
  refine Ct.of [some (.ref a)] (by decide +kernel) rfl (Nat.le_of_ble_eq_true rfl) rfl rfl ?_
  refine x_aload_n (M := mX10_page) (pc := 0) dX10_page_0 rfl ?_
  refine x_get (M := mX10_page) (pc := 1) kcX10 0 rfl q1327 dX10_page_1 (by first | assumption | exact xu_s _ _ _ | exact (xu_n (by first | assumption | exact Ne.symm (by assumption) | exact xu_fresh (by assumption) (by assumption) | exact (xu_fresh (by assumption) (by assumption)).symm)).trans (by first | assumption | exact xu_s _ _ _ | exact (xu_n (by first | assumption | exact Ne.symm (by assumption) | exact xu_fresh (by assumption) (by assumption) | exact (xu_fresh (by assumption) (by assumption)).symm)).trans (by first | assumption | exact xu_s _ _ _ | exact (xu_n (by first | assumption | exact Ne.symm (by assumption) | exact xu_fresh (by assumption) (by assumption) | exact (xu_fresh (by assumption) (by assumption)).symm)).trans (by first | assumption | exact xu_s _ _ _)))) rfl ?_
  refine x_iret (M := mX10_page) (pc := 4) dX10_page_4 rfl (by first | exact Nat.le_of_ble_eq_true rfl | omega) (by first | exact Nat.le_of_ble_eq_true rfl | omega) ?_
  exact ⟨rfl, rfl⟩
theorem c_sgN (h : xH) (a p n d : Nat) (w : Bool) (ha : h a = some (.inr (10, [.int (nI p), .int (nI n), .int (bI w)]))) : Ct g l mX10_number d 0 0 [.ref a] h (fun o h' => o = .inl (some (.int (nI n))) ∧ h' = h) := by
  refine Ct.of [some (.ref a)] (by decide +kernel) rfl (Nat.le_of_ble_eq_true rfl) rfl rfl ?_
  refine x_aload_n (M := mX10_number) (pc := 0) dX10_number_0 rfl ?_
  refine x_get (M := mX10_number) (pc := 1) kcX10 1 rfl q1328 dX10_number_1 (by first | assumption | exact xu_s _ _ _ | exact (xu_n (by first | assumption | exact Ne.symm (by assumption) | exact xu_fresh (by assumption) (by assumption) | exact (xu_fresh (by assumption) (by assumption)).symm)).trans (by first | assumption | exact xu_s _ _ _ | exact (xu_n (by first | assumption | exact Ne.symm (by assumption) | exact xu_fresh (by assumption) (by assumption) | exact (xu_fresh (by assumption) (by assumption)).symm)).trans (by first | assumption | exact xu_s _ _ _ | exact (xu_n (by first | assumption | exact Ne.symm (by assumption) | exact xu_fresh (by assumption) (by assumption) | exact (xu_fresh (by assumption) (by assumption)).symm)).trans (by first | assumption | exact xu_s _ _ _)))) rfl ?_
  refine x_iret (M := mX10_number) (pc := 4) dX10_number_4 rfl (by first | exact Nat.le_of_ble_eq_true rfl | omega) (by first | exact Nat.le_of_ble_eq_true rfl | omega) ?_
  exact ⟨rfl, rfl⟩
theorem c_sgU (h : xH) (a p n d : Nat) (w : Bool) (ha : h a = some (.inr (10, [.int (nI p), .int (nI n), .int (bI w)]))) : Ct g l mX10_isUpsideDown d 0 0 [.ref a] h (fun o h' => o = .inl (some (.int (bI w))) ∧ h' = h) := by
  refine Ct.of [some (.ref a)] (by decide +kernel) rfl (Nat.le_of_ble_eq_true rfl) rfl rfl ?_
  refine x_aload_n (M := mX10_isUpsideDown) (pc := 0) dX10_isUpsideDown_0 rfl ?_
  refine x_get (M := mX10_isUpsideDown) (pc := 1) kcX10 2 rfl q1329 dX10_isUpsideDown_1 (by first | assumption | exact xu_s _ _ _ | exact (xu_n (by first | assumption | exact Ne.symm (by assumption) | exact xu_fresh (by assumption) (by assumption) | exact (xu_fresh (by assumption) (by assumption)).symm)).trans (by first | assumption | exact xu_s _ _ _ | exact (xu_n (by first | assumption | exact Ne.symm (by assumption) | exact xu_fresh (by assumption) (by assumption) | exact (xu_fresh (by assumption) (by assumption)).symm)).trans (by first | assumption | exact xu_s _ _ _ | exact (xu_n (by first | assumption | exact Ne.symm (by assumption) | exact xu_fresh (by assumption) (by assumption) | exact (xu_fresh (by assumption) (by assumption)).symm)).trans (by first | assumption | exact xu_s _ _ _)))) rfl ?_
  refine x_zret (M := mX10_isUpsideDown) (pc := 4) dX10_isUpsideDown_4 rfl (by first | with_reducible exact xz0 | with_reducible exact xz1 | with_reducible exact bI_01 _ | with_reducible assumption | assumption) (by first | exact Nat.le_of_ble_eq_true rfl | omega) (by first | exact Nat.le_of_ble_eq_true rfl | omega) ?_
  exact ⟨rfl, rfl⟩
theorem c_shows (h : xH) (bk sh a p n d : Nat) (w : Bool) (hd : 4 ≤ d) (hn : n < 32) (s : Row) (ly : Nat → Lay) (hB : BS g h bk sh s ly) (hpg : p < 2 * (zHi s * zWi s)) (ha : h a = some (.inr (10, [.int (nI p), .int (nI n), .int (bI w)]))) : Ct g l mX8_shows d 0 0 [.ref bk, .ref a] h (fun o h' => o = .inl (some (.int (bI (decide (s (90 + p_sd ly p) = nI n) && ((p_tn ly (zN s 7) p == zTu s (p_sd ly p)) != w))))) ∧ h' = h) := by
  have hW := hB.wf
  have hWb := hW.b
  have hper : ∀ t, t < zHi s * zWi s → (ly t).1 < zHi s * zWi s := by
    obtain ⟨P, sx, sy, La, xs, J, _, hS, _, hp, hper, hJ32⟩ := hB
    exact fun t ht => (hper t ht).1
  have hlt := p_sd_lt (s := s) hpg hper
  have hz : zNone (s (90 + p_sd ly p)) = nI n ↔ s (90 + p_sd ly p) = nI n := by
    rcases zNone_or hW (k := p_sd ly p) (by omega) with ⟨z1, z2⟩ | ⟨m, z0, z1, z2, z3⟩
    · rw [z2]; exact ⟨fun e => absurd e (neg9 (by omega)), fun e => absurd z1 (by rw [e]; exact nI_pos (by omega))⟩
    · rw [z3, z1]
  have hai := xIs.of (g := g) kcX10 ha
  have ib : ∀ a b : Bool, (bI a = bI b) ↔ a = b := fun a b => bI_inj
  refine Ct.of [some (.ref bk), some (.ref a)] (by decide +kernel) rfl (Nat.le_of_ble_eq_true rfl) rfl rfl ?_
  refine x_aload_n (M := mX8_shows) (pc := 0) dX8_shows_0 rfl ?_
  refine x_aload_n (M := mX8_shows) (pc := 1) dX8_shows_1 rfl ?_
  refine x_V0 (M := mX8_shows) (pc := 2) (M' := mX10_page) q2740 kVX10_page dX8_shows_2 (c_sgP h a p n (d - 1) w ha) (hai) (fun v_ h hq_ => ?_)
  obtain ⟨hv_, rfl⟩ := hq_; cases hv_
  refine x_V1 (M := mX8_shows) (pc := 5) (M' := mX8_numberOn) q2068 kVX8_numberOn dX8_shows_5 (c_numberOn h bk sh p (d - 1) (by omega) s ly hB hpg) (hB.is) (fun v_ h hq_ => ?_)
  obtain ⟨hv_, rfl⟩ := hq_; cases hv_
  refine x_aload_n (M := mX8_shows) (pc := 8) dX8_shows_8 rfl ?_
  refine x_V0 (M := mX8_shows) (pc := 9) (M' := mX10_number) q2744 kVX10_number dX8_shows_9 (c_sgN h a p n (d - 1) w ha) (hai) (fun v_ h hq_ => ?_)
  obtain ⟨hv_, rfl⟩ := hq_; cases hv_
  refine x_icmp_ne (M := mX8_shows) (pc := 12) 34 dX8_shows_12 (by decide) (fun r_a => ?_) (fun r_a => ?_)
  rotate_left
  refine x_aload_n (M := mX8_shows) (pc := 15) dX8_shows_15 rfl ?_
  refine x_aload_n (M := mX8_shows) (pc := 16) dX8_shows_16 rfl ?_
  refine x_V0 (M := mX8_shows) (pc := 17) (M' := mX10_page) q2740 kVX10_page dX8_shows_17 (c_sgP h a p n (d - 1) w ha) (hai) (fun v_ h hq_ => ?_)
  obtain ⟨hv_, rfl⟩ := hq_; cases hv_
  refine x_V1 (M := mX8_shows) (pc := 20) (M' := mX8_isUpright) q2070 kVX8_isUpright dX8_shows_20 (c_isUprightB h bk sh p (d - 1) (by omega) s ly hB hpg) (hB.is) (fun v_ h hq_ => ?_)
  obtain ⟨hv_, rfl⟩ := hq_; cases hv_
  refine x_aload_n (M := mX8_shows) (pc := 23) dX8_shows_23 rfl ?_
  refine x_V0 (M := mX8_shows) (pc := 24) (M' := mX10_isUpsideDown) q2748 kVX10_isUpsideDown dX8_shows_24 (c_sgU h a p n (d - 1) w ha) (hai) (fun v_ h hq_ => ?_)
  obtain ⟨hv_, rfl⟩ := hq_; cases hv_
  refine x_icmp_eq (M := mX8_shows) (pc := 27) 34 dX8_shows_27 (by decide) (fun r_b => ?_) (fun r_b => ?_)
  rotate_left
  rotate_left
  · refine x_iconst (M := mX8_shows) (pc := 34) (v := nI 0) dX8_shows_34 (by decide) ?_
    refine x_zret (M := mX8_shows) (pc := 35) dX8_shows_35 rfl (by first | with_reducible exact xz0 | with_reducible exact xz1 | with_reducible exact bI_01 _ | with_reducible assumption | assumption) (by first | exact Nat.le_of_ble_eq_true rfl | omega) (by first | exact Nat.le_of_ble_eq_true rfl | omega) ?_
    exact ⟨congrArg Sum.inl (vB0 (by simp [mt hz.mpr r_a])), rfl⟩
  · refine x_iconst (M := mX8_shows) (pc := 34) (v := nI 0) dX8_shows_34 (by decide) ?_
    refine x_zret (M := mX8_shows) (pc := 35) dX8_shows_35 rfl (by first | with_reducible exact xz0 | with_reducible exact xz1 | with_reducible exact bI_01 _ | with_reducible assumption | assumption) (by first | exact Nat.le_of_ble_eq_true rfl | omega) (by first | exact Nat.le_of_ble_eq_true rfl | omega) ?_
    rw [ib] at r_b
    exact ⟨congrArg Sum.inl (vB0 (by simp [r_b])), rfl⟩
  · refine x_iconst (M := mX8_shows) (pc := 30) (v := nI 1) dX8_shows_30 (by decide) ?_
    refine x_goto (M := mX8_shows) (pc := 31) 35 dX8_shows_31 (by decide) ?_
    refine x_zret (M := mX8_shows) (pc := 35) dX8_shows_35 rfl (by first | with_reducible exact xz0 | with_reducible exact xz1 | with_reducible exact bI_01 _ | with_reducible assumption | assumption) (by first | exact Nat.le_of_ble_eq_true rfl | omega) (by first | exact Nat.le_of_ble_eq_true rfl | omega) ?_
    rw [ib] at r_b
    have r_a' : zNone (s (90 + p_sd ly p)) = nI n := by simpa using r_a
    exact ⟨congrArg Sum.inl (vB1 (by simp [hz.mp r_a', r_b])), rfl⟩
theorem zSee_n {s : Row} (hW : WF s) {ly : Nat → Lay} {k : Nat} (hk : k < zN s 12) : zSee1 s ly k = (decide (s (90 + p_sd ly (zN s (13 + 3 * k))) = nI (zN s (14 + 3 * k))) && ((p_tn ly (zN s 7) (zN s (13 + 3 * k)) == zTu s (p_sd ly (zN s (13 + 3 * k)))) != decide (zN s (15 + 3 * k) = 1))) := by
  obtain ⟨-, ⟨a1, -⟩, ⟨b1, b2⟩⟩ := hW.2.2.2.2.2.2.2.1 k hk
  unfold zSee1
  rw [a1, b1]
  have e : decide (nI (zN s (15 + 3 * k)) = 0) = !decide (zN s (15 + 3 * k) = 1) := by
    rcases (by omega : zN s (15 + 3 * k) = 0 ∨ zN s (15 + 3 * k) = 1) with z | z <;> rw [z] <;> decide
  rw [e]
  congr 1
  cases (p_tn ly (zN s 7) (zN s (13 + 3 * k)) == zTu s (p_sd ly (zN s (13 + 3 * k)))) <;> cases decide (zN s (15 + 3 * k) = 1) <;> rfl
theorem allN_f {P : Nat → Bool} {k : Nat} (h : allN P k = false) : ∀ n, k ≤ n → allN P n = false
  | 0, hn => by rw [show k = 0 by omega] at h; exact h
  | n + 1, hn => by
    rcases Nat.lt_or_ge n k with q | q
    · rw [← show k = n + 1 by omega]; exact h
    · rw [allN, allN_f h n q]; rfl
theorem j_saL (h : xH) (bk sh d : Nat) (hd : 5 ≤ d) (s : Row) (ly : Nat → Lay) (hB : BS g h bk sh s ly) (Q : xO → xH → Prop) (hE : Q (.inl (some (.int (bI (zSeen s ly))))) h) : ∀ m k, k + m = zN s 12 → X g l mX8_showsAll d 0 0 Q 4 [some (.ref bk), some (.int (bI (allN (zSee1 s ly) k))), some (.int (nI k))] [] h 0 0 := by
  have hB0 := hB
  obtain ⟨P, sx, sy, La, xs, J, ⟨lv, jl, ja, cap, sb, hbk, ⟨f, hlv, hf⟩, hly, hJO, hsb⟩, hS, hW, hp, hper, hJ32⟩ := hB
  obtain ⟨hal, hlen, hel⟩ := hS.2.2.2.2.2.1
  have h12 := hW.2.2.2.2.2.2.1.2
  have hsh := hS.1
  unfold shE at hsh
  intro m
  induction m with
  | zero =>
    intro k hk
    have : k = zN s 12 := by omega
    subst this
    refine x_iload_n (M := mX8_showsAll) (pc := 4) dX8_showsAll_4 rfl ?_
    refine x_aload_n (M := mX8_showsAll) (pc := 5) dX8_showsAll_5 rfl ?_
    refine x_get (M := mX8_showsAll) (pc := 6) kcX8 0 rfl q1198 dX8_showsAll_6 (by first | assumption | exact xu_s _ _ _ | exact (xu_n (by first | assumption | exact Ne.symm (by assumption) | exact xu_fresh (by assumption) (by assumption) | exact (xu_fresh (by assumption) (by assumption)).symm)).trans (by first | assumption | exact xu_s _ _ _ | exact (xu_n (by first | assumption | exact Ne.symm (by assumption) | exact xu_fresh (by assumption) (by assumption) | exact (xu_fresh (by assumption) (by assumption)).symm)).trans (by first | assumption | exact xu_s _ _ _ | exact (xu_n (by first | assumption | exact Ne.symm (by assumption) | exact xu_fresh (by assumption) (by assumption) | exact (xu_fresh (by assumption) (by assumption)).symm)).trans (by first | assumption | exact xu_s _ _ _)))) rfl ?_
    refine x_getN (M := mX8_showsAll) (pc := 9) kcX2 11 rfl q262 dX8_showsAll_9 (by first | assumption | exact xu_s _ _ _ | exact (xu_n (by first | assumption | exact Ne.symm (by assumption) | exact xu_fresh (by assumption) (by assumption) | exact (xu_fresh (by assumption) (by assumption)).symm)).trans (by first | assumption | exact xu_s _ _ _ | exact (xu_n (by first | assumption | exact Ne.symm (by assumption) | exact xu_fresh (by assumption) (by assumption) | exact (xu_fresh (by assumption) (by assumption)).symm)).trans (by first | assumption | exact xu_s _ _ _ | exact (xu_n (by first | assumption | exact Ne.symm (by assumption) | exact xu_fresh (by assumption) (by assumption) | exact (xu_fresh (by assumption) (by assumption)).symm)).trans (by first | assumption | exact xu_s _ _ _)))) rfl ?_
    refine x_V0 (M := mX8_showsAll) (pc := 12) (M' := mJ2_size) q1162 kVJ2_size dX8_showsAll_12 (j_size h _ _ (d - 1) sx hal) (hal.is) (fun v_ h hq_ => ?_)
    obtain ⟨hv_, rfl⟩ := hq_; cases hv_
    first | with_reducible refine x_icmp_geN (M := mX8_showsAll) (pc := 15) 47 dX8_showsAll_15 (by decide) (by omega) (by omega) (fun c15 => ?_) (fun c15 => ?_) | refine x_icmp_ge (M := mX8_showsAll) (pc := 15) 47 dX8_showsAll_15 (by decide) (fun c15 => ?_) (fun c15 => ?_)
    · refine x_iload_n (M := mX8_showsAll) (pc := 47) dX8_showsAll_47 rfl ?_
      refine x_zret (M := mX8_showsAll) (pc := 48) dX8_showsAll_48 rfl (by first | with_reducible exact xz0 | with_reducible exact xz1 | with_reducible exact bI_01 _ | with_reducible assumption | assumption) (by first | exact Nat.le_of_ble_eq_true rfl | omega) (by first | exact Nat.le_of_ble_eq_true rfl | omega) ?_
      exact hE
    · omega
  | succ m ih =>
    intro k hk
    have hkk : k < zN s 12 := by omega
    have hsg := hel k hkk
    unfold sgE at hsg
    obtain ⟨⟨a0, a1⟩, ⟨b0, b1⟩, -⟩ := hW.2.2.2.2.2.2.2.1 k hkk
    have his := xIs.of (g := g) kcX10 hsg
    refine x_iload_n (M := mX8_showsAll) (pc := 4) dX8_showsAll_4 rfl ?_
    refine x_aload_n (M := mX8_showsAll) (pc := 5) dX8_showsAll_5 rfl ?_
    refine x_get (M := mX8_showsAll) (pc := 6) kcX8 0 rfl q1198 dX8_showsAll_6 (by first | assumption | exact xu_s _ _ _ | exact (xu_n (by first | assumption | exact Ne.symm (by assumption) | exact xu_fresh (by assumption) (by assumption) | exact (xu_fresh (by assumption) (by assumption)).symm)).trans (by first | assumption | exact xu_s _ _ _ | exact (xu_n (by first | assumption | exact Ne.symm (by assumption) | exact xu_fresh (by assumption) (by assumption) | exact (xu_fresh (by assumption) (by assumption)).symm)).trans (by first | assumption | exact xu_s _ _ _ | exact (xu_n (by first | assumption | exact Ne.symm (by assumption) | exact xu_fresh (by assumption) (by assumption) | exact (xu_fresh (by assumption) (by assumption)).symm)).trans (by first | assumption | exact xu_s _ _ _)))) rfl ?_
    refine x_getN (M := mX8_showsAll) (pc := 9) kcX2 11 rfl q262 dX8_showsAll_9 (by first | assumption | exact xu_s _ _ _ | exact (xu_n (by first | assumption | exact Ne.symm (by assumption) | exact xu_fresh (by assumption) (by assumption) | exact (xu_fresh (by assumption) (by assumption)).symm)).trans (by first | assumption | exact xu_s _ _ _ | exact (xu_n (by first | assumption | exact Ne.symm (by assumption) | exact xu_fresh (by assumption) (by assumption) | exact (xu_fresh (by assumption) (by assumption)).symm)).trans (by first | assumption | exact xu_s _ _ _ | exact (xu_n (by first | assumption | exact Ne.symm (by assumption) | exact xu_fresh (by assumption) (by assumption) | exact (xu_fresh (by assumption) (by assumption)).symm)).trans (by first | assumption | exact xu_s _ _ _)))) rfl ?_
    refine x_V0 (M := mX8_showsAll) (pc := 12) (M' := mJ2_size) q1162 kVJ2_size dX8_showsAll_12 (j_size h _ _ (d - 1) sx hal) (hal.is) (fun v_ h hq_ => ?_)
    obtain ⟨hv_, rfl⟩ := hq_; cases hv_
    first | with_reducible refine x_icmp_geN (M := mX8_showsAll) (pc := 15) 47 dX8_showsAll_15 (by decide) (by omega) (by omega) (fun c15 => ?_) (fun c15 => ?_) | refine x_icmp_ge (M := mX8_showsAll) (pc := 15) 47 dX8_showsAll_15 (by decide) (fun c15 => ?_) (fun c15 => ?_)
    omega
    refine x_iload_n (M := mX8_showsAll) (pc := 18) dX8_showsAll_18 rfl ?_
    first | with_reducible refine x_ifB_eq (M := mX8_showsAll) (pc := 19) 47 dX8_showsAll_19 (by decide) (fun c19 => ?_) (fun c19 => ?_) | with_reducible refine x_if_eqN (M := mX8_showsAll) (pc := 19) 47 dX8_showsAll_19 (by decide) (by omega) (fun c19 => ?_) (fun c19 => ?_) | refine x_if_eq (M := mX8_showsAll) (pc := 19) 47 dX8_showsAll_19 (by decide) (fun c19 => ?_) (fun c19 => ?_)
    rotate_left
    refine x_aload_n (M := mX8_showsAll) (pc := 22) dX8_showsAll_22 rfl ?_
    refine x_aload_n (M := mX8_showsAll) (pc := 23) dX8_showsAll_23 rfl ?_
    refine x_get (M := mX8_showsAll) (pc := 24) kcX8 0 rfl q1198 dX8_showsAll_24 (by exact hbk) rfl ?_
    refine x_getN (M := mX8_showsAll) (pc := 27) kcX2 11 rfl q262 dX8_showsAll_27 (by first | assumption | exact xu_s _ _ _ | exact (xu_n (by first | assumption | exact Ne.symm (by assumption) | exact xu_fresh (by assumption) (by assumption) | exact (xu_fresh (by assumption) (by assumption)).symm)).trans (by first | assumption | exact xu_s _ _ _ | exact (xu_n (by first | assumption | exact Ne.symm (by assumption) | exact xu_fresh (by assumption) (by assumption) | exact (xu_fresh (by assumption) (by assumption)).symm)).trans (by first | assumption | exact xu_s _ _ _ | exact (xu_n (by first | assumption | exact Ne.symm (by assumption) | exact xu_fresh (by assumption) (by assumption) | exact (xu_fresh (by assumption) (by assumption)).symm)).trans (by first | assumption | exact xu_s _ _ _)))) rfl ?_
    refine x_iload_n (M := mX8_showsAll) (pc := 30) dX8_showsAll_30 rfl ?_
    refine x_V1 (M := mX8_showsAll) (pc := 31) (M' := mJ2_get) q1163 kVJ2_get dX8_showsAll_31 (j_get h _ _ (d - 1) (by omega) sx hal (by omega) k (by omega)) (hal.is) (fun v_ h hq_ => ?_)
    obtain ⟨hv_, rfl⟩ := hq_; cases hv_
    refine x_cast (M := mX8_showsAll) (pc := 34) q2735 dX8_showsAll_34 (his) (Or.inl rfl) ?_
    refine x_V1 (M := mX8_showsAll) (pc := 37) (M' := mX8_shows) q2736 kVX8_shows dX8_showsAll_37 (c_shows h bk sh _ _ _ (d - 1) _ (by omega) b1 s ly hB0 a1 hsg) (xIs.of kcX8 hbk) (fun v_ h hq_ => ?_)
    obtain ⟨hv_, rfl⟩ := hq_; cases hv_
    rotate_left
    · rw [c19]
      rw [show zSeen s ly = false from allN_f c19 _ (by omega)] at hE
      refine x_iload_n (M := mX8_showsAll) (pc := 47) dX8_showsAll_47 rfl ?_
      refine x_zret (M := mX8_showsAll) (pc := 48) dX8_showsAll_48 rfl (by first | with_reducible exact xz0 | with_reducible exact xz1 | with_reducible exact bI_01 _ | with_reducible assumption | assumption) (by first | exact Nat.le_of_ble_eq_true rfl | omega) (by first | exact Nat.le_of_ble_eq_true rfl | omega) ?_
      exact hE
    · rw [← zSee_n hW hkk]
      refine x_istore1 (M := mX8_showsAll) (pc := 40) dX8_showsAll_40 ?_
      first | refine x_iinc2N (M := mX8_showsAll) (pc := 41) (c := 1) dX8_showsAll_41 oI1 ?_ | refine x_iinc2 (M := mX8_showsAll) (pc := 41) (c := 1) dX8_showsAll_41 (by decide) ?_
      refine x_goto (M := mX8_showsAll) (pc := 44) 4 dX8_showsAll_44 (by decide) ?_
      have := ih (k + 1) (by omega)
      rw [allN, c19, Bool.true_and] at this
      exact this
theorem c_showsAll (h : xH) (bk sh d : Nat) (hd : 5 ≤ d) (s : Row) (ly : Nat → Lay) (hB : BS g h bk sh s ly) : Ct g l mX8_showsAll d 0 0 [.ref bk] h (fun o h' => o = .inl (some (.int (bI (zSeen s ly)))) ∧ h' = h) := by
  refine Ct.of [some (.ref bk), none, none] (by decide +kernel) rfl (Nat.le_of_ble_eq_true rfl) rfl rfl ?_
  refine x_iconst (M := mX8_showsAll) (pc := 0) (v := nI 1) dX8_showsAll_0 (by decide) ?_
  refine x_istore1 (M := mX8_showsAll) (pc := 1) dX8_showsAll_1 ?_
  refine x_iconst (M := mX8_showsAll) (pc := 2) (v := nI 0) dX8_showsAll_2 (by decide) ?_
  refine x_istore2 (M := mX8_showsAll) (pc := 3) dX8_showsAll_3 ?_
  exact j_saL h bk sh d hd s ly hB _ ⟨rfl, rfl⟩ (zN s 12) 0 (by omega)
end BKREAD3

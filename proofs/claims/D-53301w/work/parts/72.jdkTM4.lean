/-! java.util.TreeMap: insertion -/
section JDKTM4
set_option maxRecDepth 100000
variable {g : xG} {l : Launch} {h h0 : xH}
theorem j_tnInit (h : xH) (x k : Nat) (v : Option Nat) (d : Nat) (p : Option Nat) (v0 v1 v2 v3 v4 v5 : Value) (hd : 1 ≤ d) (hx : h x = some (.inr (37, [v0, v1, v2, v3, v4, v5]))) : Ct g l mJ32_init d 0 0 [.ref x, .ref k, va_rf v, va_rf p] h (fun o h' => o = .inl none ∧ h' = xu h x (.inr (37, [.ref k, va_rf v, v2, v3, va_rf p, .int (nI 1)]))) := by
  cases v with
  | none =>
    cases p with
    | none =>
      show Ct g l mJ32_init d 0 0 [.ref x, .ref k, .null, .null] h (fun o h' => o = .inl none ∧ h' = xu h x (.inr (37, [.ref k, .null, v2, v3, .null, .int (nI 1)])))
      refine Ct.of [some (.ref x), some (.ref k), some (.null), some (.null)] (by decide +kernel) rfl (Nat.le_of_ble_eq_true rfl) rfl rfl ?_
      refine x_aload_n (M := mJ32_init) (pc := 0) dJ32_init_0 rfl ?_
      refine x_objInit (M := mJ32_init) (pc := 1) q2544 dJ32_init_1 (by first | exact Nat.le_of_ble_eq_true rfl | omega) (by first | exact Nat.le_of_ble_eq_true rfl | (simp [xcat_rf, Value.category])) ?_
      refine x_aload_n (M := mJ32_init) (pc := 4) dJ32_init_4 rfl ?_
      refine x_iconst (M := mJ32_init) (pc := 5) (v := nI 1) dJ32_init_5 (by decide) ?_
      first | refine x_put5' (M := mJ32_init) (pc := 6) kcJ32 q2554 dJ32_init_6 ?_ | refine x_put5 (M := mJ32_init) (pc := 6) kcJ32 q2554 dJ32_init_6 (by first | assumption | exact xu_s _ _ _ | exact (xu_n (by first | assumption | exact Ne.symm (by assumption) | exact xu_fresh (by assumption) (by assumption) | exact (xu_fresh (by assumption) (by assumption)).symm)).trans (by first | assumption | exact xu_s _ _ _ | exact (xu_n (by first | assumption | exact Ne.symm (by assumption) | exact xu_fresh (by assumption) (by assumption) | exact (xu_fresh (by assumption) (by assumption)).symm)).trans (by first | assumption | exact xu_s _ _ _ | exact (xu_n (by first | assumption | exact Ne.symm (by assumption) | exact xu_fresh (by assumption) (by assumption) | exact (xu_fresh (by assumption) (by assumption)).symm)).trans (by first | assumption | exact xu_s _ _ _)))) ?_
      refine x_aload_n (M := mJ32_init) (pc := 9) dJ32_init_9 rfl ?_
      refine x_aload_n (M := mJ32_init) (pc := 10) dJ32_init_10 rfl ?_
      first | refine x_put0' (M := mJ32_init) (pc := 11) kcJ32 q2545 dJ32_init_11 ?_ | refine x_put0 (M := mJ32_init) (pc := 11) kcJ32 q2545 dJ32_init_11 (by first | assumption | exact xu_s _ _ _ | exact (xu_n (by first | assumption | exact Ne.symm (by assumption) | exact xu_fresh (by assumption) (by assumption) | exact (xu_fresh (by assumption) (by assumption)).symm)).trans (by first | assumption | exact xu_s _ _ _ | exact (xu_n (by first | assumption | exact Ne.symm (by assumption) | exact xu_fresh (by assumption) (by assumption) | exact (xu_fresh (by assumption) (by assumption)).symm)).trans (by first | assumption | exact xu_s _ _ _ | exact (xu_n (by first | assumption | exact Ne.symm (by assumption) | exact xu_fresh (by assumption) (by assumption) | exact (xu_fresh (by assumption) (by assumption)).symm)).trans (by first | assumption | exact xu_s _ _ _)))) ?_
      refine x_aload_n (M := mJ32_init) (pc := 14) dJ32_init_14 rfl ?_
      refine x_aload_n (M := mJ32_init) (pc := 15) dJ32_init_15 rfl ?_
      first | refine x_put1' (M := mJ32_init) (pc := 16) kcJ32 q2548 dJ32_init_16 ?_ | refine x_put1 (M := mJ32_init) (pc := 16) kcJ32 q2548 dJ32_init_16 (by first | assumption | exact xu_s _ _ _ | exact (xu_n (by first | assumption | exact Ne.symm (by assumption) | exact xu_fresh (by assumption) (by assumption) | exact (xu_fresh (by assumption) (by assumption)).symm)).trans (by first | assumption | exact xu_s _ _ _ | exact (xu_n (by first | assumption | exact Ne.symm (by assumption) | exact xu_fresh (by assumption) (by assumption) | exact (xu_fresh (by assumption) (by assumption)).symm)).trans (by first | assumption | exact xu_s _ _ _ | exact (xu_n (by first | assumption | exact Ne.symm (by assumption) | exact xu_fresh (by assumption) (by assumption) | exact (xu_fresh (by assumption) (by assumption)).symm)).trans (by first | assumption | exact xu_s _ _ _)))) ?_
      refine x_aload_n (M := mJ32_init) (pc := 19) dJ32_init_19 rfl ?_
      refine x_aload_n (M := mJ32_init) (pc := 20) dJ32_init_20 rfl ?_
      first | refine x_put4' (M := mJ32_init) (pc := 21) kcJ32 q2552 dJ32_init_21 ?_ | refine x_put4 (M := mJ32_init) (pc := 21) kcJ32 q2552 dJ32_init_21 (by first | assumption | exact xu_s _ _ _ | exact (xu_n (by first | assumption | exact Ne.symm (by assumption) | exact xu_fresh (by assumption) (by assumption) | exact (xu_fresh (by assumption) (by assumption)).symm)).trans (by first | assumption | exact xu_s _ _ _ | exact (xu_n (by first | assumption | exact Ne.symm (by assumption) | exact xu_fresh (by assumption) (by assumption) | exact (xu_fresh (by assumption) (by assumption)).symm)).trans (by first | assumption | exact xu_s _ _ _ | exact (xu_n (by first | assumption | exact Ne.symm (by assumption) | exact xu_fresh (by assumption) (by assumption) | exact (xu_fresh (by assumption) (by assumption)).symm)).trans (by first | assumption | exact xu_s _ _ _)))) ?_
      refine x_vret (M := mJ32_init) (pc := 24) dJ32_init_24 rfl (by first | exact Nat.le_of_ble_eq_true rfl | omega) (by first | exact Nat.le_of_ble_eq_true rfl | omega) ?_
      exact ⟨rfl, rfl⟩
    | some p =>
      show Ct g l mJ32_init d 0 0 [.ref x, .ref k, .null, .ref p] h (fun o h' => o = .inl none ∧ h' = xu h x (.inr (37, [.ref k, .null, v2, v3, .ref p, .int (nI 1)])))
      refine Ct.of [some (.ref x), some (.ref k), some (.null), some (.ref p)] (by decide +kernel) rfl (Nat.le_of_ble_eq_true rfl) rfl rfl ?_
      refine x_aload_n (M := mJ32_init) (pc := 0) dJ32_init_0 rfl ?_
      refine x_objInit (M := mJ32_init) (pc := 1) q2544 dJ32_init_1 (by first | exact Nat.le_of_ble_eq_true rfl | omega) (by first | exact Nat.le_of_ble_eq_true rfl | (simp [xcat_rf, Value.category])) ?_
      refine x_aload_n (M := mJ32_init) (pc := 4) dJ32_init_4 rfl ?_
      refine x_iconst (M := mJ32_init) (pc := 5) (v := nI 1) dJ32_init_5 (by decide) ?_
      first | refine x_put5' (M := mJ32_init) (pc := 6) kcJ32 q2554 dJ32_init_6 ?_ | refine x_put5 (M := mJ32_init) (pc := 6) kcJ32 q2554 dJ32_init_6 (by first | assumption | exact xu_s _ _ _ | exact (xu_n (by first | assumption | exact Ne.symm (by assumption) | exact xu_fresh (by assumption) (by assumption) | exact (xu_fresh (by assumption) (by assumption)).symm)).trans (by first | assumption | exact xu_s _ _ _ | exact (xu_n (by first | assumption | exact Ne.symm (by assumption) | exact xu_fresh (by assumption) (by assumption) | exact (xu_fresh (by assumption) (by assumption)).symm)).trans (by first | assumption | exact xu_s _ _ _ | exact (xu_n (by first | assumption | exact Ne.symm (by assumption) | exact xu_fresh (by assumption) (by assumption) | exact (xu_fresh (by assumption) (by assumption)).symm)).trans (by first | assumption | exact xu_s _ _ _)))) ?_
      refine x_aload_n (M := mJ32_init) (pc := 9) dJ32_init_9 rfl ?_
      refine x_aload_n (M := mJ32_init) (pc := 10) dJ32_init_10 rfl ?_
      first | refine x_put0' (M := mJ32_init) (pc := 11) kcJ32 q2545 dJ32_init_11 ?_ | refine x_put0 (M := mJ32_init) (pc := 11) kcJ32 q2545 dJ32_init_11 (by first | assumption | exact xu_s _ _ _ | exact (xu_n (by first | assumption | exact Ne.symm (by assumption) | exact xu_fresh (by assumption) (by assumption) | exact (xu_fresh (by assumption) (by assumption)).symm)).trans (by first | assumption | exact xu_s _ _ _ | exact (xu_n (by first | assumption | exact Ne.symm (by assumption) | exact xu_fresh (by assumption) (by assumption) | exact (xu_fresh (by assumption) (by assumption)).symm)).trans (by first | assumption | exact xu_s _ _ _ | exact (xu_n (by first | assumption | exact Ne.symm (by assumption) | exact xu_fresh (by assumption) (by assumption) | exact (xu_fresh (by assumption) (by assumption)).symm)).trans (by first | assumption | exact xu_s _ _ _)))) ?_
      refine x_aload_n (M := mJ32_init) (pc := 14) dJ32_init_14 rfl ?_
      refine x_aload_n (M := mJ32_init) (pc := 15) dJ32_init_15 rfl ?_
      first | refine x_put1' (M := mJ32_init) (pc := 16) kcJ32 q2548 dJ32_init_16 ?_ | refine x_put1 (M := mJ32_init) (pc := 16) kcJ32 q2548 dJ32_init_16 (by first | assumption | exact xu_s _ _ _ | exact (xu_n (by first | assumption | exact Ne.symm (by assumption) | exact xu_fresh (by assumption) (by assumption) | exact (xu_fresh (by assumption) (by assumption)).symm)).trans (by first | assumption | exact xu_s _ _ _ | exact (xu_n (by first | assumption | exact Ne.symm (by assumption) | exact xu_fresh (by assumption) (by assumption) | exact (xu_fresh (by assumption) (by assumption)).symm)).trans (by first | assumption | exact xu_s _ _ _ | exact (xu_n (by first | assumption | exact Ne.symm (by assumption) | exact xu_fresh (by assumption) (by assumption) | exact (xu_fresh (by assumption) (by assumption)).symm)).trans (by first | assumption | exact xu_s _ _ _)))) ?_
      refine x_aload_n (M := mJ32_init) (pc := 19) dJ32_init_19 rfl ?_
      refine x_aload_n (M := mJ32_init) (pc := 20) dJ32_init_20 rfl ?_
      first | refine x_put4' (M := mJ32_init) (pc := 21) kcJ32 q2552 dJ32_init_21 ?_ | refine x_put4 (M := mJ32_init) (pc := 21) kcJ32 q2552 dJ32_init_21 (by first | assumption | exact xu_s _ _ _ | exact (xu_n (by first | assumption | exact Ne.symm (by assumption) | exact xu_fresh (by assumption) (by assumption) | exact (xu_fresh (by assumption) (by assumption)).symm)).trans (by first | assumption | exact xu_s _ _ _ | exact (xu_n (by first | assumption | exact Ne.symm (by assumption) | exact xu_fresh (by assumption) (by assumption) | exact (xu_fresh (by assumption) (by assumption)).symm)).trans (by first | assumption | exact xu_s _ _ _ | exact (xu_n (by first | assumption | exact Ne.symm (by assumption) | exact xu_fresh (by assumption) (by assumption) | exact (xu_fresh (by assumption) (by assumption)).symm)).trans (by first | assumption | exact xu_s _ _ _)))) ?_
      refine x_vret (M := mJ32_init) (pc := 24) dJ32_init_24 rfl (by first | exact Nat.le_of_ble_eq_true rfl | omega) (by first | exact Nat.le_of_ble_eq_true rfl | omega) ?_
      exact ⟨rfl, rfl⟩
  | some v =>
    cases p with
    | none =>
      show Ct g l mJ32_init d 0 0 [.ref x, .ref k, .ref v, .null] h (fun o h' => o = .inl none ∧ h' = xu h x (.inr (37, [.ref k, .ref v, v2, v3, .null, .int (nI 1)])))
      refine Ct.of [some (.ref x), some (.ref k), some (.ref v), some (.null)] (by decide +kernel) rfl (Nat.le_of_ble_eq_true rfl) rfl rfl ?_
      refine x_aload_n (M := mJ32_init) (pc := 0) dJ32_init_0 rfl ?_
      refine x_objInit (M := mJ32_init) (pc := 1) q2544 dJ32_init_1 (by first | exact Nat.le_of_ble_eq_true rfl | omega) (by first | exact Nat.le_of_ble_eq_true rfl | (simp [xcat_rf, Value.category])) ?_
      refine x_aload_n (M := mJ32_init) (pc := 4) dJ32_init_4 rfl ?_
      refine x_iconst (M := mJ32_init) (pc := 5) (v := nI 1) dJ32_init_5 (by decide) ?_
      first | refine x_put5' (M := mJ32_init) (pc := 6) kcJ32 q2554 dJ32_init_6 ?_ | refine x_put5 (M := mJ32_init) (pc := 6) kcJ32 q2554 dJ32_init_6 (by first | assumption | exact xu_s _ _ _ | exact (xu_n (by first | assumption | exact Ne.symm (by assumption) | exact xu_fresh (by assumption) (by assumption) | exact (xu_fresh (by assumption) (by assumption)).symm)).trans (by first | assumption | exact xu_s _ _ _ | exact (xu_n (by first | assumption | exact Ne.symm (by assumption) | exact xu_fresh (by assumption) (by assumption) | exact (xu_fresh (by assumption) (by assumption)).symm)).trans (by first | assumption | exact xu_s _ _ _ | exact (xu_n (by first | assumption | exact Ne.symm (by assumption) | exact xu_fresh (by assumption) (by assumption) | exact (xu_fresh (by assumption) (by assumption)).symm)).trans (by first | assumption | exact xu_s _ _ _)))) ?_
      refine x_aload_n (M := mJ32_init) (pc := 9) dJ32_init_9 rfl ?_
      refine x_aload_n (M := mJ32_init) (pc := 10) dJ32_init_10 rfl ?_
      first | refine x_put0' (M := mJ32_init) (pc := 11) kcJ32 q2545 dJ32_init_11 ?_ | refine x_put0 (M := mJ32_init) (pc := 11) kcJ32 q2545 dJ32_init_11 (by first | assumption | exact xu_s _ _ _ | exact (xu_n (by first | assumption | exact Ne.symm (by assumption) | exact xu_fresh (by assumption) (by assumption) | exact (xu_fresh (by assumption) (by assumption)).symm)).trans (by first | assumption | exact xu_s _ _ _ | exact (xu_n (by first | assumption | exact Ne.symm (by assumption) | exact xu_fresh (by assumption) (by assumption) | exact (xu_fresh (by assumption) (by assumption)).symm)).trans (by first | assumption | exact xu_s _ _ _ | exact (xu_n (by first | assumption | exact Ne.symm (by assumption) | exact xu_fresh (by assumption) (by assumption) | exact (xu_fresh (by assumption) (by assumption)).symm)).trans (by first | assumption | exact xu_s _ _ _)))) ?_
      refine x_aload_n (M := mJ32_init) (pc := 14) dJ32_init_14 rfl ?_
      refine x_aload_n (M := mJ32_init) (pc := 15) dJ32_init_15 rfl ?_
      first | refine x_put1' (M := mJ32_init) (pc := 16) kcJ32 q2548 dJ32_init_16 ?_ | refine x_put1 (M := mJ32_init) (pc := 16) kcJ32 q2548 dJ32_init_16 (by first | assumption | exact xu_s _ _ _ | exact (xu_n (by first | assumption | exact Ne.symm (by assumption) | exact xu_fresh (by assumption) (by assumption) | exact (xu_fresh (by assumption) (by assumption)).symm)).trans (by first | assumption | exact xu_s _ _ _ | exact (xu_n (by first | assumption | exact Ne.symm (by assumption) | exact xu_fresh (by assumption) (by assumption) | exact (xu_fresh (by assumption) (by assumption)).symm)).trans (by first | assumption | exact xu_s _ _ _ | exact (xu_n (by first | assumption | exact Ne.symm (by assumption) | exact xu_fresh (by assumption) (by assumption) | exact (xu_fresh (by assumption) (by assumption)).symm)).trans (by first | assumption | exact xu_s _ _ _)))) ?_
      refine x_aload_n (M := mJ32_init) (pc := 19) dJ32_init_19 rfl ?_
      refine x_aload_n (M := mJ32_init) (pc := 20) dJ32_init_20 rfl ?_
      first | refine x_put4' (M := mJ32_init) (pc := 21) kcJ32 q2552 dJ32_init_21 ?_ | refine x_put4 (M := mJ32_init) (pc := 21) kcJ32 q2552 dJ32_init_21 (by first | assumption | exact xu_s _ _ _ | exact (xu_n (by first | assumption | exact Ne.symm (by assumption) | exact xu_fresh (by assumption) (by assumption) | exact (xu_fresh (by assumption) (by assumption)).symm)).trans (by first | assumption | exact xu_s _ _ _ | exact (xu_n (by first | assumption | exact Ne.symm (by assumption) | exact xu_fresh (by assumption) (by assumption) | exact (xu_fresh (by assumption) (by assumption)).symm)).trans (by first | assumption | exact xu_s _ _ _ | exact (xu_n (by first | assumption | exact Ne.symm (by assumption) | exact xu_fresh (by assumption) (by assumption) | exact (xu_fresh (by assumption) (by assumption)).symm)).trans (by first | assumption | exact xu_s _ _ _)))) ?_
      refine x_vret (M := mJ32_init) (pc := 24) dJ32_init_24 rfl (by first | exact Nat.le_of_ble_eq_true rfl | omega) (by first | exact Nat.le_of_ble_eq_true rfl | omega) ?_
      exact ⟨rfl, rfl⟩
    | some p =>
      show Ct g l mJ32_init d 0 0 [.ref x, .ref k, .ref v, .ref p] h (fun o h' => o = .inl none ∧ h' = xu h x (.inr (37, [.ref k, .ref v, v2, v3, .ref p, .int (nI 1)])))
      refine Ct.of [some (.ref x), some (.ref k), some (.ref v), some (.ref p)] (by decide +kernel) rfl (Nat.le_of_ble_eq_true rfl) rfl rfl ?_
      refine x_aload_n (M := mJ32_init) (pc := 0) dJ32_init_0 rfl ?_
      refine x_objInit (M := mJ32_init) (pc := 1) q2544 dJ32_init_1 (by first | exact Nat.le_of_ble_eq_true rfl | omega) (by first | exact Nat.le_of_ble_eq_true rfl | (simp [xcat_rf, Value.category])) ?_
      refine x_aload_n (M := mJ32_init) (pc := 4) dJ32_init_4 rfl ?_
      refine x_iconst (M := mJ32_init) (pc := 5) (v := nI 1) dJ32_init_5 (by decide) ?_
      first | refine x_put5' (M := mJ32_init) (pc := 6) kcJ32 q2554 dJ32_init_6 ?_ | refine x_put5 (M := mJ32_init) (pc := 6) kcJ32 q2554 dJ32_init_6 (by first | assumption | exact xu_s _ _ _ | exact (xu_n (by first | assumption | exact Ne.symm (by assumption) | exact xu_fresh (by assumption) (by assumption) | exact (xu_fresh (by assumption) (by assumption)).symm)).trans (by first | assumption | exact xu_s _ _ _ | exact (xu_n (by first | assumption | exact Ne.symm (by assumption) | exact xu_fresh (by assumption) (by assumption) | exact (xu_fresh (by assumption) (by assumption)).symm)).trans (by first | assumption | exact xu_s _ _ _ | exact (xu_n (by first | assumption | exact Ne.symm (by assumption) | exact xu_fresh (by assumption) (by assumption) | exact (xu_fresh (by assumption) (by assumption)).symm)).trans (by first | assumption | exact xu_s _ _ _)))) ?_
      refine x_aload_n (M := mJ32_init) (pc := 9) dJ32_init_9 rfl ?_
      refine x_aload_n (M := mJ32_init) (pc := 10) dJ32_init_10 rfl ?_
      first | refine x_put0' (M := mJ32_init) (pc := 11) kcJ32 q2545 dJ32_init_11 ?_ | refine x_put0 (M := mJ32_init) (pc := 11) kcJ32 q2545 dJ32_init_11 (by first | assumption | exact xu_s _ _ _ | exact (xu_n (by first | assumption | exact Ne.symm (by assumption) | exact xu_fresh (by assumption) (by assumption) | exact (xu_fresh (by assumption) (by assumption)).symm)).trans (by first | assumption | exact xu_s _ _ _ | exact (xu_n (by first | assumption | exact Ne.symm (by assumption) | exact xu_fresh (by assumption) (by assumption) | exact (xu_fresh (by assumption) (by assumption)).symm)).trans (by first | assumption | exact xu_s _ _ _ | exact (xu_n (by first | assumption | exact Ne.symm (by assumption) | exact xu_fresh (by assumption) (by assumption) | exact (xu_fresh (by assumption) (by assumption)).symm)).trans (by first | assumption | exact xu_s _ _ _)))) ?_
      refine x_aload_n (M := mJ32_init) (pc := 14) dJ32_init_14 rfl ?_
      refine x_aload_n (M := mJ32_init) (pc := 15) dJ32_init_15 rfl ?_
      first | refine x_put1' (M := mJ32_init) (pc := 16) kcJ32 q2548 dJ32_init_16 ?_ | refine x_put1 (M := mJ32_init) (pc := 16) kcJ32 q2548 dJ32_init_16 (by first | assumption | exact xu_s _ _ _ | exact (xu_n (by first | assumption | exact Ne.symm (by assumption) | exact xu_fresh (by assumption) (by assumption) | exact (xu_fresh (by assumption) (by assumption)).symm)).trans (by first | assumption | exact xu_s _ _ _ | exact (xu_n (by first | assumption | exact Ne.symm (by assumption) | exact xu_fresh (by assumption) (by assumption) | exact (xu_fresh (by assumption) (by assumption)).symm)).trans (by first | assumption | exact xu_s _ _ _ | exact (xu_n (by first | assumption | exact Ne.symm (by assumption) | exact xu_fresh (by assumption) (by assumption) | exact (xu_fresh (by assumption) (by assumption)).symm)).trans (by first | assumption | exact xu_s _ _ _)))) ?_
      refine x_aload_n (M := mJ32_init) (pc := 19) dJ32_init_19 rfl ?_
      refine x_aload_n (M := mJ32_init) (pc := 20) dJ32_init_20 rfl ?_
      first | refine x_put4' (M := mJ32_init) (pc := 21) kcJ32 q2552 dJ32_init_21 ?_ | refine x_put4 (M := mJ32_init) (pc := 21) kcJ32 q2552 dJ32_init_21 (by first | assumption | exact xu_s _ _ _ | exact (xu_n (by first | assumption | exact Ne.symm (by assumption) | exact xu_fresh (by assumption) (by assumption) | exact (xu_fresh (by assumption) (by assumption)).symm)).trans (by first | assumption | exact xu_s _ _ _ | exact (xu_n (by first | assumption | exact Ne.symm (by assumption) | exact xu_fresh (by assumption) (by assumption) | exact (xu_fresh (by assumption) (by assumption)).symm)).trans (by first | assumption | exact xu_s _ _ _ | exact (xu_n (by first | assumption | exact Ne.symm (by assumption) | exact xu_fresh (by assumption) (by assumption) | exact (xu_fresh (by assumption) (by assumption)).symm)).trans (by first | assumption | exact xu_s _ _ _)))) ?_
      refine x_vret (M := mJ32_init) (pc := 24) dJ32_init_24 rfl (by first | exact Nat.le_of_ble_eq_true rfl | omega) (by first | exact Nat.le_of_ble_eq_true rfl | omega) ?_
      exact ⟨rfl, rfl⟩
theorem bI_1 : nI 1 = bI true := rfl
/-- a fresh leaf x in the hole of c -/
theorem leaf_sh {L R P L' R' P' : Nat → Option Nat} {b : Bool} {p x : Nat} {s : Tre} {c : Cx} (h : tSh L R P (tPl ((b, p, s) :: c) tl) none) (nd : (tIo (tPl ((b, p, s) :: c) tl)).Nodup) (hx : x ∉ tIo (tPl ((b, p, s) :: c) tl))
    (hL : ∀ n, L' n = if n = p ∧ b = false then some x else if n = x then none else L n) (hR : ∀ n, R' n = if n = p ∧ b = true then some x else if n = x then none else R n) (hP : ∀ n, P' n = if n = x then some p else P n) : tSh L' R' P' (tPl ((b, p, s) :: c) (tn x tl tl)) none := by
  rw [tSh_pl] at h ⊢
  rw [tIo_pl] at nd hx
  have hpx : p ≠ x := fun e => by subst e; cases b <;> simp [cIoL, cIoR] at hx
  refine ⟨cSh_set ((b, p, s) :: c) none (some x) ?_ (fun n hn => ?_) h.1, ?_⟩
  · simpa [tIo] using nd
  · have hnx : n ≠ x := fun e => by subst e; simp [tIo] at hx; grind
    simp only [cSet, hL, hR, hP, va_up, hnx, if_false]
    cases b <;> simp [va_up]
  · refine ⟨?_, ?_, ?_, trivial, trivial⟩
    · simp [hP, tPar]
    · rw [hL]; simp [hpx.symm, tRt]
    · rw [hR]; simp [hpx.symm, tRt]
theorem TN.ins {tm : Nat} {o : va_E} {ns ns' : List Nat} {K : Nat → Nat} {V : Nat → Option Nat} {L R P : Nat → Option Nat} {C : Nat → Bool} {q k : Nat} {v : Option Nat} {p : Option Nat} (hT : TN h tm o ns K V L R P C) (hq : h q = none) (hs : ∀ n ∈ ns', n = q ∨ n ∈ ns) : TN (xu h q (.inr (37, [.ref k, va_rf v, .null, .null, va_rf p, .int (nI 1)]))) tm o ns' (va_up K q k) (va_up V q v) (va_up L q none) (va_up R q none) (va_up P q p) (va_up C q true) := by
  have hne : tm ≠ q := fun e => by have := hT.1; rw [e, hq] at this; cases this
  refine ⟨(xu_n hne).trans hT.1, fun n hn => ?_, fun e => ?_⟩
  · by_cases e : n = q
    · subst e; rw [xu_s]; simp [tcell, va_up]; exact ⟨rfl, rfl⟩
    · rw [xu_n e, hT.2.1 n ((hs n hn).resolve_left e)]; simp [tcell, va_up, e]
  · rcases hs tm e with z | z
    · exact hne z
    · exact hT.2.2 z
theorem j_addEntry (h : xH) (tm k : Nat) (v : Option Nat) (d : Nat) (hd : 3 ≤ d) (sz md : Int32) (nk : Option Nat) (K : Nat → Nat) (V : Nat → Option Nat) (L R P : Nat → Option Nat) (C : Nat → Bool) (b : Bool) (p : Nat) (s : Tre) (c : Cx) (w : Int32) (hw : w = bI (!b)) (nd : (tIo (tPl ((b, p, s) :: c) tl)).Nodup) (hS : tSh L R P (tPl ((b, p, s) :: c) tl) none) (hT : TN h tm (tobj (cRt c (some p)) sz md nk) (tIo (tPl ((b, p, s) :: c) tl)) K V L R P C) (hB : ∀ r, cRt c (some p) = some r → C r = true) : Ct g l mJ21_addEntry d 1 6 [.ref tm, .ref k, va_rf v, .ref p, .int w] h (fun o h' => o = .inl none ∧ ∃ x sz' md', h x = none ∧ FX h tm sz' md' nk (tIo (tPl ((b, p, s) :: c) (tn x tl tl))) (va_up K x k) (va_up V x v) h') := by
  have htm := hT.1
  refine Ct.of [some (.ref tm), some (.ref k), some (va_rf v), some (.ref p), some (.int w), none] (by decide +kernel) (by cases v <;> rfl) (by cases v <;> exact Nat.le_of_ble_eq_true rfl) (by cases v <;> rfl) (by cases v <;> rfl) ?_
  refine x_new (M := mJ21_addEntry) (pc := 0) kcJ32 q2539 dJ21_addEntry_0 (by first | exact Nat.le_of_ble_eq_true rfl | omega) (by first | exact Nat.le_of_ble_eq_true rfl | omega) (fun q0_ hq0_ hb0_ => ?_)
  (try simp only [xu_noneI] at hq0_)
  repeat (obtain ⟨_, hq0_⟩ : _ ∧ _ := hq0_)
  refine x_dup (M := mJ21_addEntry) (pc := 3) dJ21_addEntry_3 ?_
  refine x_aload_n (M := mJ21_addEntry) (pc := 4) dJ21_addEntry_4 rfl ?_
  refine x_aload_n (M := mJ21_addEntry) (pc := 5) dJ21_addEntry_5 rfl ?_
  refine x_aload_n (M := mJ21_addEntry) (pc := 6) dJ21_addEntry_6 rfl ?_
  have hqi : q0_ ∉ tIo (tPl ((b, p, s) :: c) tl) := fun e => by have := hT.2.1 _ e; rw [hq0_] at this; cases this
  have hqt : tm ≠ q0_ := fun e => by rw [← e, htm] at hq0_; cases hq0_
  refine x_I3 (M := mJ21_addEntry) (pc := 7) (M' := mJ32_init) q2541 kIJ32_init dJ21_addEntry_7 (j_tnInit _ q0_ k v (d - 1) (some p) _ _ _ _ _ _ (by omega) (xu_s _ _ _)) (fun v_ h hq_ => ?_)
  obtain ⟨hv_, rfl⟩ := hq_; cases hv_
  refine x_astore5 (M := mJ21_addEntry) (pc := 10) dJ21_addEntry_10 ?_
  refine x_iload (M := mJ21_addEntry) (pc := 12) dJ21_addEntry_12 rfl ?_
  skip
  rw [xu_xu]
  have hins := hT.ins (q := q0_) (k := k) (v := v) (p := some p) hq0_ (ns' := tIo (tPl ((b, p, s) :: c) (tn q0_ tl tl))) (fun n hn => by rw [tIo_pl] at hn ⊢; simp [tIo] at hn ⊢; grind)
  have hxm : q0_ ∈ tIo (tPl ((b, p, s) :: c) (tn q0_ tl tl)) := by rw [tIo_pl]; simp [tIo]
  have hpm : p ∈ tIo (tPl ((b, p, s) :: c) (tn q0_ tl tl)) := by rw [tIo_pl]; cases b <;> simp [tIo, cIoL, cIoR]
  have hF0 : TF tm (tIo (tPl ((b, p, s) :: c) (tn q0_ tl tl))) h (xu h q0_ (.inr (37, [.ref k, va_rf v, .null, .null, va_rf (some p), .int (nI 1)]))) := TF.rf.up hxm _
  generalize xu h q0_ (.inr (37, [.ref k, va_rf v, .null, .null, va_rf (some p), .int (nI 1)])) = h1 at hins hF0 ⊢
  have nd' : (tIo (tPl ((b, p, s) :: c) (tn q0_ tl tl))).Nodup := by rw [tIo_pl] at nd hqi ⊢; simp only [tIo, List.nil_append, List.append_nil, List.singleton_append] at nd hqi ⊢; rw [List.nodup_append] at nd ⊢; grind
  have hend : ∀ (h2 : xH) (L' R' : Nat → Option Nat), TN h2 tm (tobj (cRt c (some p)) sz md nk) (tIo (tPl ((b, p, s) :: c) (tn q0_ tl tl))) (va_up K q0_ k) (va_up V q0_ v) L' R' (va_up P q0_ (some p)) (va_up C q0_ true) → TF tm (tIo (tPl ((b, p, s) :: c) (tn q0_ tl tl))) h h2 → (∀ n, L' n = if n = p ∧ b = false then some q0_ else if n = q0_ then none else L n) → (∀ n, R' n = if n = p ∧ b = true then some q0_ else if n = q0_ then none else R n) → ∀ Q, (∀ h' sz' md', FX h tm sz' md' nk (tIo (tPl ((b, p, s) :: c) (tn q0_ tl tl))) (va_up K q0_ k) (va_up V q0_ v) h' → Q (.inl none) h') → X g l mJ21_addEntry d 1 6 Q 32 [some (.ref tm), some (.ref k), some (va_rf v), some (.ref p), some (.int w), some (.ref q0_)] [] h2 1 6 := by
    intro h2 L' R' hT2 hF2 hL2 hR2 Q hQ
    have htm2 := hT2.1
    refine x_aload_n (M := mJ21_addEntry) (pc := 32) dJ21_addEntry_32 rfl ?_
    refine x_aload (M := mJ21_addEntry) (pc := 33) dJ21_addEntry_33 rfl ?_
    refine x_V1 (M := mJ21_addEntry) (pc := 35) (M' := mJ21_fixAfterInsertion) q2573 kVJ21_fixAfterInsertion dJ21_addEntry_35 (j_fix h2 tm (d - 1) (by omega) sz md nk _ nd' _ _ L' R' _ _ ((b, p, s) :: c) q0_ tl tl rfl (leaf_sh hS nd hqi hL2 hR2 (fun n => by simp [va_up])) hT2 (fun r hr hne => by simp [va_up, hne]; exact hB r hr)) (xIs.of kcJ21 htm2) (fun v_ h hq_ => ?_)
    obtain ⟨hv_, T, L3, R3, P3, C3, hio3, hS3, hT3, hC3, hF3⟩ := hq_; cases hv_; have htm3 := hT3.1; unfold tobj at htm3
    refine x_aload_n (M := mJ21_addEntry) (pc := 38) dJ21_addEntry_38 rfl ?_
    refine x_dup (M := mJ21_addEntry) (pc := 39) dJ21_addEntry_39 ?_
    refine x_get (M := mJ21_addEntry) (pc := 40) kcJ21 4 rfl q2088 dJ21_addEntry_40 (by first | assumption | exact xu_s _ _ _ | exact (xu_n (by first | assumption | exact Ne.symm (by assumption) | exact xu_fresh (by assumption) (by assumption) | exact (xu_fresh (by assumption) (by assumption)).symm)).trans (by first | assumption | exact xu_s _ _ _ | exact (xu_n (by first | assumption | exact Ne.symm (by assumption) | exact xu_fresh (by assumption) (by assumption) | exact (xu_fresh (by assumption) (by assumption)).symm)).trans (by first | assumption | exact xu_s _ _ _ | exact (xu_n (by first | assumption | exact Ne.symm (by assumption) | exact xu_fresh (by assumption) (by assumption) | exact (xu_fresh (by assumption) (by assumption)).symm)).trans (by first | assumption | exact xu_s _ _ _)))) rfl ?_
    refine x_iconst (M := mJ21_addEntry) (pc := 43) (v := nI 1) dJ21_addEntry_43 (by decide) ?_
    first | with_reducible refine x_iaddN (M := mJ21_addEntry) (pc := 44) dJ21_addEntry_44 ?_ | refine x_iadd (M := mJ21_addEntry) (pc := 44) dJ21_addEntry_44 ?_
    first | refine x_put4' (M := mJ21_addEntry) (pc := 45) kcJ21 q2088 dJ21_addEntry_45 ?_ | refine x_put4 (M := mJ21_addEntry) (pc := 45) kcJ21 q2088 dJ21_addEntry_45 (by first | assumption | exact xu_s _ _ _ | exact (xu_n (by first | assumption | exact Ne.symm (by assumption) | exact xu_fresh (by assumption) (by assumption) | exact (xu_fresh (by assumption) (by assumption)).symm)).trans (by first | assumption | exact xu_s _ _ _ | exact (xu_n (by first | assumption | exact Ne.symm (by assumption) | exact xu_fresh (by assumption) (by assumption) | exact (xu_fresh (by assumption) (by assumption)).symm)).trans (by first | assumption | exact xu_s _ _ _ | exact (xu_n (by first | assumption | exact Ne.symm (by assumption) | exact xu_fresh (by assumption) (by assumption) | exact (xu_fresh (by assumption) (by assumption)).symm)).trans (by first | assumption | exact xu_s _ _ _)))) ?_
    refine x_aload_n (M := mJ21_addEntry) (pc := 48) dJ21_addEntry_48 rfl ?_
    refine x_dup (M := mJ21_addEntry) (pc := 49) dJ21_addEntry_49 ?_
    refine x_get (M := mJ21_addEntry) (pc := 50) kcJ21 5 rfl q2090 dJ21_addEntry_50 (by first | assumption | exact xu_s _ _ _ | exact (xu_n (by first | assumption | exact Ne.symm (by assumption) | exact xu_fresh (by assumption) (by assumption) | exact (xu_fresh (by assumption) (by assumption)).symm)).trans (by first | assumption | exact xu_s _ _ _ | exact (xu_n (by first | assumption | exact Ne.symm (by assumption) | exact xu_fresh (by assumption) (by assumption) | exact (xu_fresh (by assumption) (by assumption)).symm)).trans (by first | assumption | exact xu_s _ _ _ | exact (xu_n (by first | assumption | exact Ne.symm (by assumption) | exact xu_fresh (by assumption) (by assumption) | exact (xu_fresh (by assumption) (by assumption)).symm)).trans (by first | assumption | exact xu_s _ _ _)))) rfl ?_
    refine x_iconst (M := mJ21_addEntry) (pc := 53) (v := nI 1) dJ21_addEntry_53 (by decide) ?_
    first | with_reducible refine x_iaddN (M := mJ21_addEntry) (pc := 54) dJ21_addEntry_54 ?_ | refine x_iadd (M := mJ21_addEntry) (pc := 54) dJ21_addEntry_54 ?_
    first | refine x_put5' (M := mJ21_addEntry) (pc := 55) kcJ21 q2090 dJ21_addEntry_55 ?_ | refine x_put5 (M := mJ21_addEntry) (pc := 55) kcJ21 q2090 dJ21_addEntry_55 (by first | assumption | exact xu_s _ _ _ | exact (xu_n (by first | assumption | exact Ne.symm (by assumption) | exact xu_fresh (by assumption) (by assumption) | exact (xu_fresh (by assumption) (by assumption)).symm)).trans (by first | assumption | exact xu_s _ _ _ | exact (xu_n (by first | assumption | exact Ne.symm (by assumption) | exact xu_fresh (by assumption) (by assumption) | exact (xu_fresh (by assumption) (by assumption)).symm)).trans (by first | assumption | exact xu_s _ _ _ | exact (xu_n (by first | assumption | exact Ne.symm (by assumption) | exact xu_fresh (by assumption) (by assumption) | exact (xu_fresh (by assumption) (by assumption)).symm)).trans (by first | assumption | exact xu_s _ _ _)))) ?_
    skip
    refine x_vret (M := mJ21_addEntry) (pc := 58) dJ21_addEntry_58 rfl (by first | exact Nat.le_of_ble_eq_true rfl | omega) (by first | exact Nat.le_of_ble_eq_true rfl | omega) ?_
    exact hQ _ (sz + nI 1) (md + nI 1) ⟨T, L3, R3, P3, C3, hio3, hS3, hT3.obj (o' := tobj (tRt T) (sz + nI 1) (md + nI 1) nk), hC3, (hF2.tr hF3).obj _⟩
  subst hw
  refine x_ifB_eq (M := mJ21_addEntry) (pc := 14) 26 dJ21_addEntry_14 (by decide) (fun e => ?_) (fun e => ?_)
  · have e : b = true := by cases b <;> first | rfl | cases e
    subst e
    refine x_aload_n (M := mJ21_addEntry) (pc := 26) dJ21_addEntry_26 rfl ?_
    refine x_aload (M := mJ21_addEntry) (pc := 27) dJ21_addEntry_27 rfl ?_
    refine x_tp3 (M := mJ21_addEntry) (pc := 29) (some q0_) rfl hins hF0 hpm q2551 dJ21_addEntry_29 (fun h2 hT2 hF2 => ?_)
    exact hend h2 _ _ hT2 hF2 (fun n => by simp [va_up]) (fun n => by simp [va_up]) _ (fun h' sz' md' hX => ⟨rfl, q0_, sz', md', hq0_, hX⟩)
  · have e : b = false := by cases b <;> first | rfl | cases e
    subst e
    refine x_aload_n (M := mJ21_addEntry) (pc := 17) dJ21_addEntry_17 rfl ?_
    refine x_aload (M := mJ21_addEntry) (pc := 18) dJ21_addEntry_18 rfl ?_
    refine x_tp2 (M := mJ21_addEntry) (pc := 20) (some q0_) rfl hins hF0 hpm q2550 dJ21_addEntry_20 (fun h2 hT2 hF2 => ?_)
    refine x_goto (M := mJ21_addEntry) (pc := 23) 32 dJ21_addEntry_23 (by decide) ?_
    exact hend h2 _ _ hT2 hF2 (fun n => by simp [va_up]) (fun n => by simp [va_up]) _ (fun h' sz' md' hX => ⟨rfl, q0_, sz', md', hq0_, hX⟩)
/-- what put leaves -/
def PUT (κ : Bool) (g : xG) (h : xH) (tm : Nat) (nk : Option Nat) (ns : List Nat) (K : Nat → Nat) (V : Nat → Option Nat) (rk : Nat → Int) (a : Nat) (v : Option Nat) (r : Int) (res : Option Nat) (h' : xH) : Prop :=
  ∃ x ns' K' V' rk' md', TM κ g h' tm nk md' ns' K' V' rk' ∧ TF tm ns h h' ∧ ((x ∈ ns ∧ rk x = r ∧ ns' = ns ∧ K' = K ∧ V' = va_up V x v ∧ rk' = rk ∧ res = V x) ∨ (h x = none ∧ (∀ n ∈ ns, rk n ≠ r) ∧ (∃ l1 l2, ns = l1 ++ l2 ∧ ns' = l1 ++ x :: l2) ∧ K' = va_up K x a ∧ V' = va_up V x v ∧ rk' = va_up rk x r ∧ res = none))
theorem CK.keep {κ : Bool} {h' : xH} {a tm : Nat} {r : Int} {rt : Option Nat} {sz md : Int32} {nk : Option Nat} {ns : List Nat} {K : Nat → Nat} {V : Nat → Option Nat} {L R P : Nat → Option Nat} {C : Nat → Bool} (hT : TN h tm (tobj rt sz md nk) ns K V L R P C) (hF : TF tm ns h h') (hk : CK κ g h a r) : CK κ g h' a r := by
  have key : ∀ c fs, c ≠ 35 → c ≠ 37 → h a = some (.inr (c, fs)) → h' a = some (.inr (c, fs)) := fun c fs h1 h2 h3 =>
    hF a _ (fun e => by subst e; have := hT.1; rw [h3] at this; cases this; exact h1 rfl) (fun e => by have := hT.2.1 a e; rw [h3] at this; cases this; exact h2 rfl) h3
  cases κ with
  | false => obtain ⟨v, h1, h2⟩ := hk; exact ⟨v, h1.imp (key _ _ (by decide) (by decide)) id, h2⟩
  | true => obtain ⟨a', b, c, h1, h2, h3, h4, h5⟩ := hk; exact ⟨a', b, c, h1, h2, h3, key _ _ (by decide) (by decide) h4, h5⟩
theorem TM.nd {κ : Bool} {tm : Nat} {nk : Option Nat} {md : Int32} {ns : List Nat} {K : Nat → Nat} {V : Nat → Option Nat} {rk : Nat → Int} (hM : TM κ g h tm nk md ns K V rk) : ns.Nodup := by
  obtain ⟨sz, T, L, R, P, C, hio, hS, hT, hC, hpw, hK⟩ := hM
  exact hpw.imp (fun hab e => by subst e; omega)
theorem j_put216 (h : xH) (tm a : Nat) (v : Option Nat) (d : Nat) (hd : 4 ≤ d) (κ : Bool) (r : Int) (nk : Option Nat) (sz md : Int32) (ns : List Nat) (K : Nat → Nat) (V : Nat → Option Nat) (rk : Nat → Int) (L R P : Nat → Option Nat) (C : Nat → Bool) (b : Bool) (p : Nat) (s : Tre) (c : Cx) (w : Int32) (hw : w = bI (!b)) (hio : tIo (tPl ((b, p, s) :: c) tl) = ns) (hS : tSh L R P (tPl ((b, p, s) :: c) tl) none) (hT : TN h tm (tobj (cRt c (some p)) sz md nk) ns K V L R P C) (hC : ∀ r, cRt c (some p) = some r → C r = true) (hpw : ns.Pairwise (fun a b => rk a < rk b)) (hK : ∀ n ∈ ns, CK κ g h (K n) (rk n)) (hk : CK κ g h a r) (hl : ∀ n ∈ cIoL ((b, p, s) :: c), rk n < r) (hr : ∀ n ∈ cIoR ((b, p, s) :: c), r < rk n) (Q : xO → xH → Prop) (hE : ∀ res h', PUT κ g h tm nk ns K V rk a v r res h' → Q (.inl (some (va_rf res))) h') (Lo : List (Option Value)) (hLo : Lo.length = 10) : X g l mJ21_put_2 d 1 6 Q 216 Lo [.int w, .ref p, va_rf v, .ref a, .ref tm] h 0 0 := by
  have htm := hT.1
  have nd : ns.Nodup := hpw.imp (fun hab e => by subst e; omega)
  subst hio
  have key : ∀ x sz' md' h', h x = none → FX h tm sz' md' nk (tIo (tPl ((b, p, s) :: c) (tn x tl tl))) (va_up K x a) (va_up V x v) h' → PUT κ g h tm nk (tIo (tPl ((b, p, s) :: c) tl)) K V rk a v r none h' := by
    rintro x sz' md' h' hx ⟨T, L3, R3, P3, C3, hio3, hS3, hT3, hC3, hF3⟩
    have hxn : x ∉ tIo (tPl ((b, p, s) :: c) tl) := fun e => by have := hT.2.1 x e; rw [hx] at this; cases this
    rw [tIo_pl] at hio3 hT3 hF3 hpw hK hT hxn ⊢
    simp only [tIo, List.nil_append, List.singleton_append] at hio3 hT3 hF3 hpw hK hT hxn ⊢
    generalize cIoL ((b, p, s) :: c) = l1 at hio3 hT3 hF3 hpw hK hT hxn hl ⊢
    generalize cIoR ((b, p, s) :: c) = l2 at hio3 hT3 hF3 hpw hK hT hxn hr ⊢
    have hF : TF tm (l1 ++ l2) h h' := fun q e n1 n2 z => hF3 q e n1 (fun w => by simp at w n2; rcases w with w | w | w; exact n2.1 w; subst w; rw [hx] at z; cases z; exact n2.2 w) z
    have hne : ∀ n, n ∈ l1 ++ l2 → n ≠ x := fun n hn e => hxn (e ▸ hn)
    refine ⟨x, l1 ++ x :: l2, _, _, va_up rk x r, md', ⟨sz', T, L3, R3, P3, C3, hio3, hS3, hT3, hC3, ?_, fun n hn => ?_⟩, hF, Or.inr ⟨hx, fun n hn => ?_, ⟨l1, l2, rfl, rfl⟩, rfl, rfl, rfl, rfl⟩⟩
    · rw [List.pairwise_append] at hpw ⊢
      refine ⟨hpw.1.imp_of_mem (fun ha hb q => ?_), List.pairwise_cons.mpr ⟨fun n hn => ?_, hpw.2.1.imp_of_mem (fun ha hb q => ?_)⟩, fun n hn m hm => ?_⟩
      · simp [va_up, hne _ (List.mem_append_left _ ha), hne _ (List.mem_append_left _ hb)]; exact q
      · simp [va_up, hne _ (List.mem_append_right _ hn)]; exact hr n hn
      · simp [va_up, hne _ (List.mem_append_right _ ha), hne _ (List.mem_append_right _ hb)]; exact q
      · rcases List.mem_cons.mp hm with e | hm
        · subst e; simp [va_up, hne _ (List.mem_append_left _ hn)]; exact hl n hn
        · simp [va_up, hne _ (List.mem_append_left _ hn), hne _ (List.mem_append_right _ hm)]; exact hpw.2.2 n hn m hm
    · by_cases e : n = x
      · subst e; simp [va_up]; exact hk.keep hT hF
      · simp [va_up, e]; exact (hK n (by simp at hn ⊢; grind)).keep hT hF
    · intro e
      rcases List.mem_append.mp hn with z | z
      · have := hl n z; omega
      · have := hr n z; omega
  refine x_V4 (M := mJ21_put_2) (pc := 216) (M' := mJ21_addEntry) q2569 kVJ21_addEntry dJ21_put_2_216 (j_addEntry h tm a v (d - 1) (by omega) sz md nk K V L R P C b p s c w hw nd hS hT hC) (xIs.of kcJ21 htm) (fun v_ h hq_ => ?_)
  obtain ⟨hv_, x, sz', md', hx, hfx⟩ := hq_; cases hv_
  refine x_null (M := mJ21_put_2) (pc := 219) dJ21_put_2_219 ?_
  refine x_aret (M := mJ21_put_2) (pc := 220) dJ21_put_2_220 rfl (by first | exact Or.inl ⟨_, rfl⟩ | exact Or.inr ⟨_, rfl⟩) (by first | exact Nat.le_of_ble_eq_true rfl | omega) (by first | exact Nat.le_of_ble_eq_true rfl | omega) ?_
  exact hE none _ (key x sz' md' _ hx hfx)
theorem j_putL (h : xH) (tm a : Nat) (v : Option Nat) (d : Nat) (hd : 4 ≤ d) (κ : Bool) (r : Int) (nk : Option Nat) (sz md : Int32) (ns : List Nat) (K : Nat → Nat) (V : Nat → Option Nat) (rk : Nat → Int) (L R P : Nat → Option Nat) (C : Nat → Bool) (T : Tre) (hio : tIo T = ns) (hS : tSh L R P T none) (hT : TN h tm (tobj (tRt T) sz md nk) ns K V L R P C) (hC : ∀ r, tRt T = some r → C r = true) (hpw : ns.Pairwise (fun a b => rk a < rk b)) (hK : ∀ n ∈ ns, CK κ g h (K n) (rk n)) (hk : CK κ g h a r) (Q : xO → xH → Prop) (hE : ∀ res h', PUT κ g h tm nk ns K V rk a v r res h' → Q (.inl (some (va_rf res))) h') : ∀ (t : Tre) (c : Cx), cIoL c ++ (tIo t ++ cIoR c) = ns → cSh L R P c (tRt t) → tSh L R P t (tPar c) → cRt c (tRt t) = tRt T → (∀ n ∈ cIoL c, rk n < r) → (∀ n ∈ cIoR c, r < rk n) → t ≠ tl → ∀ a5 a6 a9, (∀ w, a5 = some w → w.category = 1) → X g l mJ21_put_2 d 1 6 Q 123 [some (.ref tm), some (.ref a), some (va_rf v), some (.int (nI 1)), some (va_rf (tRt t)), a5, a6, some .null, some (.ref a), a9] [] h 0 0 := by
  intro t
  induction t with
  | leaf => intro c _ _ _ _ _ _ hne; exact absurd rfl hne
  | inner s n u0 tl' tr ihl ihr =>
    intro c hic hcS htS hrt hl hr _ a5 a6 a9 ha5
    obtain ⟨h1, h2, h3, h4, h5⟩ := htS
    have hn : n ∈ ns := by rw [← hic]; simp [tIo]
    simp only [tRt] at hcS hrt
    have hpw' := hpw
    rw [← hic] at hpw'
    simp only [tIo, List.pairwise_append, List.pairwise_cons] at hpw'
    show X g l mJ21_put_2 d 1 6 Q 123 [some (.ref tm), some (.ref a), some (va_rf v), some (.int (nI 1)), some (.ref n), a5, a6, some .null, some (.ref a), a9] [] h 0 0
    refine x_aload (M := mJ21_put_2) (pc := 123) dJ21_put_2_123 rfl ?_
    refine x_astore6 (M := mJ21_put_2) (pc := 125) dJ21_put_2_125 (hp := ha5) ?_
    refine x_aload (M := mJ21_put_2) (pc := 127) dJ21_put_2_127 rfl ?_
    refine x_aload (M := mJ21_put_2) (pc := 129) dJ21_put_2_129 rfl ?_
    refine x_tg0 (M := mJ21_put_2) (pc := 131) hT hn q2547 dJ21_put_2_131 ?_
    refine x_cmp (M := mJ21_put_2) (pc := 134) hk (hK n hn) q2517 dJ21_put_2_134 (by omega) (Nat.zero_le _) (Nat.zero_le _) (Nat.le_of_ble_eq_true rfl) (fun w hw => ?_)
    refine x_istore5 (M := mJ21_put_2) (pc := 139) dJ21_put_2_139 ?_
    refine x_iload (M := mJ21_put_2) (pc := 141) dJ21_put_2_141 rfl ?_
    refine x_if_ge (M := mJ21_put_2) (pc := 143) 156 dJ21_put_2_143 (by decide) (fun r_143 => ?_) (fun r_143 => ?_)
    · refine x_iload (M := mJ21_put_2) (pc := 156) dJ21_put_2_156 rfl ?_
      refine x_if_le (M := mJ21_put_2) (pc := 158) 171 dJ21_put_2_158 (by decide) (fun r_158 => ?_) (fun r_158 => ?_)
      · have e : rk n = r := by
          have z1 : ¬ r < rk n := fun z => absurd (hw.1.mpr z) (Int32.not_lt.mpr r_143)
          have z2 : ¬ rk n < r := fun z => absurd (hw.2.mpr z) (Int32.not_lt.mpr r_158)
          omega
        refine x_aload (M := mJ21_put_2) (pc := 171) dJ21_put_2_171 rfl ?_
        refine x_tg1 (M := mJ21_put_2) (pc := 173) hT hn q2549 dJ21_put_2_173 ?_
        refine x_astore9 (M := mJ21_put_2) (pc := 176) dJ21_put_2_176 ?_
        refine x_iload_n (M := mJ21_put_2) (pc := 178) dJ21_put_2_178 rfl ?_
        refine x_if_ne (M := mJ21_put_2) (pc := 179) 187 dJ21_put_2_179 (by decide) (fun _ => ?_) (fun z => absurd z (by decide))
        refine x_aload (M := mJ21_put_2) (pc := 187) dJ21_put_2_187 rfl ?_
        refine x_aload_n (M := mJ21_put_2) (pc := 189) dJ21_put_2_189 rfl ?_
        refine x_tp1 (M := mJ21_put_2) (pc := 190) hT TF.rf hn q2549 dJ21_put_2_190 (fun h1 hT1 hF1 => ?_)
        refine x_aload (M := mJ21_put_2) (pc := 193) dJ21_put_2_193 rfl ?_
        refine x_aret (M := mJ21_put_2) (pc := 195) dJ21_put_2_195 rfl (by first | exact Or.inl ⟨_, rfl⟩ | exact Or.inr ⟨_, rfl⟩) (by first | exact Nat.le_of_ble_eq_true rfl | omega) (by first | exact Nat.le_of_ble_eq_true rfl | omega) ?_
        exact hE (V n) h1 ⟨n, ns, K, va_up V n v, rk, md, ⟨sz, T, L, R, P, C, hio, hS, hT1, hC, hpw, fun m hm => (hK m hm).keep hT hF1⟩, hF1, Or.inl ⟨hn, e, rfl, rfl, rfl, rfl, rfl⟩⟩
      · have z2 : rk n < r := hw.2.mp (by rw [Int32.not_le] at r_158; exact r_158)
        have hl' : ∀ m ∈ cIoL ((true, n, tl') :: c), rk m < r := fun m hm => by
          simp only [cIoL, List.mem_append, List.mem_cons, List.not_mem_nil, or_false] at hm
          rcases hm with q | q | q
          · exact hl m q
          · have := hpw'.2.1.1.2.2 m q n (by simp); omega
          · subst q; exact z2
        have hic' : cIoL ((true, n, tl') :: c) ++ (tIo tr ++ cIoR ((true, n, tl') :: c)) = ns := by rw [← hic]; simp [cIoL, cIoR, tIo]
        have hcS' : cSh L R P ((true, n, tl') :: c) (tRt tr) := ⟨h1, by simpa using ⟨h3, h2⟩, h4, hcS⟩
        refine x_aload (M := mJ21_put_2) (pc := 161) dJ21_put_2_161 rfl ?_
        refine x_tg3 (M := mJ21_put_2) (pc := 163) hT hn (by rw [h3]) q2551 dJ21_put_2_163 ?_
        refine x_astore4 (M := mJ21_put_2) (pc := 166) dJ21_put_2_166 ?_
        refine x_goto (M := mJ21_put_2) (pc := 168) 196 dJ21_put_2_168 (by decide) ?_
        cases tr with
        | leaf =>
          show X g l mJ21_put_2 d 1 6 Q 196 [_, _, _, _, some .null, _, _, _, _, _] _ _ _ _
          refine x_aload (M := mJ21_put_2) (pc := 196) dJ21_put_2_196 rfl ?_
          refine x_ifnonnullN (M := mJ21_put_2) (pc := 198) dJ21_put_2_198 ?_
          refine x_aload_n (M := mJ21_put_2) (pc := 201) dJ21_put_2_201 rfl ?_
          refine x_aload_n (M := mJ21_put_2) (pc := 202) dJ21_put_2_202 rfl ?_
          refine x_aload_n (M := mJ21_put_2) (pc := 203) dJ21_put_2_203 rfl ?_
          refine x_aload (M := mJ21_put_2) (pc := 204) dJ21_put_2_204 rfl ?_
          refine x_iload (M := mJ21_put_2) (pc := 206) dJ21_put_2_206 rfl ?_
          refine x_if_ge (M := mJ21_put_2) (pc := 208) 215 dJ21_put_2_208 (by decide) (fun _ => ?_) (fun z => absurd r_143 z)
          refine x_iconst (M := mJ21_put_2) (pc := 215) (v := nI 0) dJ21_put_2_215 (by decide) ?_
          refine j_put216 h tm a v d hd κ r nk sz md ns K V rk L R P C true n tl' c _ rfl (by rw [tIo_pl]; exact hic') ((tSh_pl _ _).mpr ⟨hcS', trivial⟩) (by rw [hrt]; exact hT) (by rw [hrt]; exact hC) hpw hK hk hl' hr Q hE _ rfl
        | inner s' n' u' tl2 tr2 =>
          show X g l mJ21_put_2 d 1 6 Q 196 [_, _, _, _, some (.ref n'), _, _, _, _, _] _ _ _ _
          refine x_aload (M := mJ21_put_2) (pc := 196) dJ21_put_2_196 rfl ?_
          refine x_ifnonnullR (M := mJ21_put_2) (pc := 198) 123 dJ21_put_2_198 (by decide) ?_
          exact ihr ((true, n, tl') :: c) hic' hcS' h5 hrt hl' hr (by simp) _ _ _ (fun w hw => by cases hw; rfl)
    · have z1 : r < rk n := hw.1.mp (by rw [Int32.not_le] at r_143; exact r_143)
      have hr' : ∀ m ∈ cIoR ((false, n, tr) :: c), r < rk m := fun m hm => by
          simp only [cIoR, List.mem_append, List.mem_cons] at hm
          rcases hm with q | q | q
          · subst q; exact z1
          · have := hpw'.2.1.1.2.1.1 m q; omega
          · exact hr m q
      have hic' : cIoL ((false, n, tr) :: c) ++ (tIo tl' ++ cIoR ((false, n, tr) :: c)) = ns := by rw [← hic]; simp [cIoL, cIoR, tIo]
      have hcS' : cSh L R P ((false, n, tr) :: c) (tRt tl') := ⟨h1, by simpa using ⟨h2, h3⟩, h5, hcS⟩
      refine x_aload (M := mJ21_put_2) (pc := 146) dJ21_put_2_146 rfl ?_
      refine x_tg2 (M := mJ21_put_2) (pc := 148) hT hn (by rw [h2]) q2550 dJ21_put_2_148 ?_
      refine x_astore4 (M := mJ21_put_2) (pc := 151) dJ21_put_2_151 ?_
      refine x_goto (M := mJ21_put_2) (pc := 153) 196 dJ21_put_2_153 (by decide) ?_
      cases tl' with
      | leaf =>
        show X g l mJ21_put_2 d 1 6 Q 196 [_, _, _, _, some .null, _, _, _, _, _] _ _ _ _
        refine x_aload (M := mJ21_put_2) (pc := 196) dJ21_put_2_196 rfl ?_
        refine x_ifnonnullN (M := mJ21_put_2) (pc := 198) dJ21_put_2_198 ?_
        refine x_aload_n (M := mJ21_put_2) (pc := 201) dJ21_put_2_201 rfl ?_
        refine x_aload_n (M := mJ21_put_2) (pc := 202) dJ21_put_2_202 rfl ?_
        refine x_aload_n (M := mJ21_put_2) (pc := 203) dJ21_put_2_203 rfl ?_
        refine x_aload (M := mJ21_put_2) (pc := 204) dJ21_put_2_204 rfl ?_
        refine x_iload (M := mJ21_put_2) (pc := 206) dJ21_put_2_206 rfl ?_
        refine x_if_ge (M := mJ21_put_2) (pc := 208) 215 dJ21_put_2_208 (by decide) (fun z => absurd z r_143) (fun _ => ?_)
        refine x_iconst (M := mJ21_put_2) (pc := 211) (v := nI 1) dJ21_put_2_211 (by decide) ?_
        refine x_goto (M := mJ21_put_2) (pc := 212) 216 dJ21_put_2_212 (by decide) ?_
        refine j_put216 h tm a v d hd κ r nk sz md ns K V rk L R P C false n tr c _ rfl (by rw [tIo_pl]; exact hic') ((tSh_pl _ _).mpr ⟨hcS', trivial⟩) (by rw [hrt]; exact hT) (by rw [hrt]; exact hC) hpw hK hk hl hr' Q hE _ rfl
      | inner s' n' u' tl2 tr2 =>
        show X g l mJ21_put_2 d 1 6 Q 196 [_, _, _, _, some (.ref n'), _, _, _, _, _] _ _ _ _
        refine x_aload (M := mJ21_put_2) (pc := 196) dJ21_put_2_196 rfl ?_
        refine x_ifnonnullR (M := mJ21_put_2) (pc := 198) 123 dJ21_put_2_198 (by decide) ?_
        exact ihl ((false, n, tr) :: c) hic' hcS' h4 hrt hl hr' (by simp) _ _ _ (fun w hw => by cases hw; rfl)
theorem j_tmCmp (h : xH) (tm a d : Nat) (hd : 3 ≤ d) (κ : Bool) (r : Int) (nk : Option Nat) (sz md : Int32) (rt : Option Nat) (htm : h tm = some (tobj rt sz md nk)) (hk : CK κ g h a r) : Ct g l mJ21_compare d 0 0 [.ref tm, .ref a, .ref a] h (fun o h' => (∃ w, o = .inl (some (.int w))) ∧ h' = h) := by
  unfold tobj at htm
  refine Ct.of [some (.ref tm), some (.ref a), some (.ref a)] (by decide +kernel) rfl (Nat.le_of_ble_eq_true rfl) rfl rfl ?_
  refine x_aload_n (M := mJ21_compare) (pc := 0) dJ21_compare_0 rfl ?_
  refine x_get (M := mJ21_compare) (pc := 1) kcJ21 2 rfl q2086 dJ21_compare_1 (by first | assumption | exact xu_s _ _ _ | exact (xu_n (by first | assumption | exact Ne.symm (by assumption) | exact xu_fresh (by assumption) (by assumption) | exact (xu_fresh (by assumption) (by assumption)).symm)).trans (by first | assumption | exact xu_s _ _ _ | exact (xu_n (by first | assumption | exact Ne.symm (by assumption) | exact xu_fresh (by assumption) (by assumption) | exact (xu_fresh (by assumption) (by assumption)).symm)).trans (by first | assumption | exact xu_s _ _ _ | exact (xu_n (by first | assumption | exact Ne.symm (by assumption) | exact xu_fresh (by assumption) (by assumption) | exact (xu_fresh (by assumption) (by assumption)).symm)).trans (by first | assumption | exact xu_s _ _ _)))) rfl ?_
  refine x_ifnonnullN (M := mJ21_compare) (pc := 4) dJ21_compare_4 ?_
  refine x_aload_n (M := mJ21_compare) (pc := 7) dJ21_compare_7 rfl ?_
  refine x_castCK (M := mJ21_compare) (pc := 8) hk q2515 dJ21_compare_8 ?_
  refine x_aload_n (M := mJ21_compare) (pc := 11) dJ21_compare_11 rfl ?_
  refine x_cmp (M := mJ21_compare) (pc := 12) hk hk q2517 dJ21_compare_12 hd (Nat.zero_le _) (Nat.zero_le _) (Nat.le_of_ble_eq_true rfl) (fun w hw => ?_)
  refine x_goto (M := mJ21_compare) (pc := 17) 31 dJ21_compare_17 (by decide) ?_
  refine x_iret (M := mJ21_compare) (pc := 31) dJ21_compare_31 rfl (by first | exact Nat.le_of_ble_eq_true rfl | omega) (by first | exact Nat.le_of_ble_eq_true rfl | omega) ?_
  exact ⟨⟨w, rfl⟩, rfl⟩
theorem put_empty (h : xH) (tm a : Nat) (v : Option Nat) (x : Nat) (κ : Bool) (r : Int) (nk : Option Nat) (sz md sz' md' : Int32) (K : Nat → Nat) (V : Nat → Option Nat) (rk : Nat → Int) (htm : h tm = some (tobj none sz md nk)) (hk : CK κ g h a r) (hx : h x = none) : PUT κ g h tm nk [] K V rk a v r none (xu (xu h x (.inr (37, [.ref a, va_rf v, .null, .null, va_rf none, .int (nI 1)]))) tm (tobj (some x) sz' md' nk)) := by
  have hT : TN h tm (tobj none sz md nk) [] K V (fun _ => none) (fun _ => none) (fun _ => none) (fun _ => true) := ⟨htm, (fun n hn => by cases hn), by simp⟩
  have h1 := (hT.ins (q := x) (k := a) (v := v) (p := none) hx (ns' := [x]) (fun n hn => Or.inl (by simpa using hn))).obj (o' := tobj (some x) sz' md' nk)
  have hF : TF tm [] h (xu (xu h x (.inr (37, [.ref a, va_rf v, .null, .null, va_rf none, .int (nI 1)]))) tm (tobj (some x) sz' md' nk)) := fun q e n1 n2 z => (xu_n n1).trans ((xu_n (fun w => by subst w; rw [hx] at z; cases z)).trans z)
  refine ⟨x, [x], va_up K x a, va_up V x v, va_up rk x r, md', ⟨sz', tn x tl tl, _, _, _, _, rfl, ?_, h1, fun r hr => ?_, by simp, fun n hn => ?_⟩, hF, Or.inr ⟨hx, (fun n hn => by cases hn), ⟨[], [], rfl, rfl⟩, rfl, rfl, rfl, rfl⟩⟩
  · simp [tSh, va_up, tRt]
  · cases hr; simp [va_up]
  · simp at hn; subst hn; simp [va_up]; exact hk.keep hT hF
theorem j_addEmpty (h : xH) (tm a : Nat) (v : Option Nat) (d : Nat) (hd : 4 ≤ d) (κ : Bool) (r : Int) (nk : Option Nat) (sz md : Int32) (K : Nat → Nat) (V : Nat → Option Nat) (rk : Nat → Int) (htm : h tm = some (tobj none sz md nk)) (hk : CK κ g h a r) : Ct g l mJ21_addEntryToEmptyMap d 1 6 [.ref tm, .ref a, va_rf v] h (fun o h' => o = .inl none ∧ PUT κ g h tm nk [] K V rk a v r none h') := by
  have htm0 := htm
  have key := fun x sz' md' => put_empty h tm a v x κ r nk sz md sz' md' K V rk htm hk
  unfold tobj at htm
  refine Ct.of [some (.ref tm), some (.ref a), some (va_rf v)] (by decide +kernel) (by cases v <;> rfl) (by cases v <;> exact Nat.le_of_ble_eq_true rfl) (by cases v <;> rfl) (by cases v <;> rfl) ?_
  refine x_aload_n (M := mJ21_addEntryToEmptyMap) (pc := 0) dJ21_addEntryToEmptyMap_0 rfl ?_
  refine x_aload_n (M := mJ21_addEntryToEmptyMap) (pc := 1) dJ21_addEntryToEmptyMap_1 rfl ?_
  refine x_aload_n (M := mJ21_addEntryToEmptyMap) (pc := 2) dJ21_addEntryToEmptyMap_2 rfl ?_
  refine x_V2 (M := mJ21_addEntryToEmptyMap) (pc := 3) (M' := mJ21_compare) q2535 kVJ21_compare dJ21_addEntryToEmptyMap_3 (j_tmCmp h tm a (d - 1) (by omega) κ r nk sz md none htm0 hk) (xIs.of kcJ21 htm) (fun v_ h hq_ => ?_)
  obtain ⟨⟨w, hv_⟩, rfl⟩ := hq_; cases hv_
  refine x_pop (M := mJ21_addEntryToEmptyMap) (pc := 6) dJ21_addEntryToEmptyMap_6 ?_
  refine x_aload_n (M := mJ21_addEntryToEmptyMap) (pc := 7) dJ21_addEntryToEmptyMap_7 rfl ?_
  skip
  refine x_new (M := mJ21_addEntryToEmptyMap) (pc := 8) kcJ32 q2539 dJ21_addEntryToEmptyMap_8 (by first | exact Nat.le_of_ble_eq_true rfl | omega) (by first | exact Nat.le_of_ble_eq_true rfl | omega) (fun q8_ hq8_ hb8_ => ?_)
  (try simp only [xu_noneI] at hq8_)
  repeat (obtain ⟨_, hq8_⟩ : _ ∧ _ := hq8_)
  refine x_dup (M := mJ21_addEntryToEmptyMap) (pc := 11) dJ21_addEntryToEmptyMap_11 ?_
  refine x_aload_n (M := mJ21_addEntryToEmptyMap) (pc := 12) dJ21_addEntryToEmptyMap_12 rfl ?_
  refine x_aload_n (M := mJ21_addEntryToEmptyMap) (pc := 13) dJ21_addEntryToEmptyMap_13 rfl ?_
  refine x_null (M := mJ21_addEntryToEmptyMap) (pc := 14) dJ21_addEntryToEmptyMap_14 ?_
  have hqt : tm ≠ q8_ := fun e => by rw [← e, htm] at hq8_; cases hq8_
  have hqt' := hqt.symm
  refine x_I3 (M := mJ21_addEntryToEmptyMap) (pc := 15) (M' := mJ32_init) q2541 kIJ32_init dJ21_addEntryToEmptyMap_15 (j_tnInit _ q8_ a v (d - 1) none _ _ _ _ _ _ (by omega) (xu_s _ _ _)) (fun v_ h hq_ => ?_)
  obtain ⟨hv_, rfl⟩ := hq_; cases hv_; rw [xu_xu]
  first | refine x_put3' (M := mJ21_addEntryToEmptyMap) (pc := 18) kcJ21 q2087 dJ21_addEntryToEmptyMap_18 ?_ | refine x_put3 (M := mJ21_addEntryToEmptyMap) (pc := 18) kcJ21 q2087 dJ21_addEntryToEmptyMap_18 (by first | assumption | exact xu_s _ _ _ | exact (xu_n (by first | assumption | exact Ne.symm (by assumption) | exact xu_fresh (by assumption) (by assumption) | exact (xu_fresh (by assumption) (by assumption)).symm)).trans (by first | assumption | exact xu_s _ _ _ | exact (xu_n (by first | assumption | exact Ne.symm (by assumption) | exact xu_fresh (by assumption) (by assumption) | exact (xu_fresh (by assumption) (by assumption)).symm)).trans (by first | assumption | exact xu_s _ _ _ | exact (xu_n (by first | assumption | exact Ne.symm (by assumption) | exact xu_fresh (by assumption) (by assumption) | exact (xu_fresh (by assumption) (by assumption)).symm)).trans (by first | assumption | exact xu_s _ _ _)))) ?_
  refine x_aload_n (M := mJ21_addEntryToEmptyMap) (pc := 21) dJ21_addEntryToEmptyMap_21 rfl ?_
  refine x_iconst (M := mJ21_addEntryToEmptyMap) (pc := 22) (v := nI 1) dJ21_addEntryToEmptyMap_22 (by decide) ?_
  first | refine x_put4' (M := mJ21_addEntryToEmptyMap) (pc := 23) kcJ21 q2088 dJ21_addEntryToEmptyMap_23 ?_ | refine x_put4 (M := mJ21_addEntryToEmptyMap) (pc := 23) kcJ21 q2088 dJ21_addEntryToEmptyMap_23 (by first | assumption | exact xu_s _ _ _ | exact (xu_n (by first | assumption | exact Ne.symm (by assumption) | exact xu_fresh (by assumption) (by assumption) | exact (xu_fresh (by assumption) (by assumption)).symm)).trans (by first | assumption | exact xu_s _ _ _ | exact (xu_n (by first | assumption | exact Ne.symm (by assumption) | exact xu_fresh (by assumption) (by assumption) | exact (xu_fresh (by assumption) (by assumption)).symm)).trans (by first | assumption | exact xu_s _ _ _ | exact (xu_n (by first | assumption | exact Ne.symm (by assumption) | exact xu_fresh (by assumption) (by assumption) | exact (xu_fresh (by assumption) (by assumption)).symm)).trans (by first | assumption | exact xu_s _ _ _)))) ?_
  refine x_aload_n (M := mJ21_addEntryToEmptyMap) (pc := 26) dJ21_addEntryToEmptyMap_26 rfl ?_
  refine x_dup (M := mJ21_addEntryToEmptyMap) (pc := 27) dJ21_addEntryToEmptyMap_27 ?_
  refine x_get (M := mJ21_addEntryToEmptyMap) (pc := 28) kcJ21 5 rfl q2090 dJ21_addEntryToEmptyMap_28 (by first | assumption | exact xu_s _ _ _ | exact (xu_n (by first | assumption | exact Ne.symm (by assumption) | exact xu_fresh (by assumption) (by assumption) | exact (xu_fresh (by assumption) (by assumption)).symm)).trans (by first | assumption | exact xu_s _ _ _ | exact (xu_n (by first | assumption | exact Ne.symm (by assumption) | exact xu_fresh (by assumption) (by assumption) | exact (xu_fresh (by assumption) (by assumption)).symm)).trans (by first | assumption | exact xu_s _ _ _ | exact (xu_n (by first | assumption | exact Ne.symm (by assumption) | exact xu_fresh (by assumption) (by assumption) | exact (xu_fresh (by assumption) (by assumption)).symm)).trans (by first | assumption | exact xu_s _ _ _)))) rfl ?_
  refine x_iconst (M := mJ21_addEntryToEmptyMap) (pc := 31) (v := nI 1) dJ21_addEntryToEmptyMap_31 (by decide) ?_
  first | with_reducible refine x_iaddN (M := mJ21_addEntryToEmptyMap) (pc := 32) dJ21_addEntryToEmptyMap_32 ?_ | refine x_iadd (M := mJ21_addEntryToEmptyMap) (pc := 32) dJ21_addEntryToEmptyMap_32 ?_
  first | refine x_put5' (M := mJ21_addEntryToEmptyMap) (pc := 33) kcJ21 q2090 dJ21_addEntryToEmptyMap_33 ?_ | refine x_put5 (M := mJ21_addEntryToEmptyMap) (pc := 33) kcJ21 q2090 dJ21_addEntryToEmptyMap_33 (by first | assumption | exact xu_s _ _ _ | exact (xu_n (by first | assumption | exact Ne.symm (by assumption) | exact xu_fresh (by assumption) (by assumption) | exact (xu_fresh (by assumption) (by assumption)).symm)).trans (by first | assumption | exact xu_s _ _ _ | exact (xu_n (by first | assumption | exact Ne.symm (by assumption) | exact xu_fresh (by assumption) (by assumption) | exact (xu_fresh (by assumption) (by assumption)).symm)).trans (by first | assumption | exact xu_s _ _ _ | exact (xu_n (by first | assumption | exact Ne.symm (by assumption) | exact xu_fresh (by assumption) (by assumption) | exact (xu_fresh (by assumption) (by assumption)).symm)).trans (by first | assumption | exact xu_s _ _ _)))) ?_
  refine x_vret (M := mJ21_addEntryToEmptyMap) (pc := 36) dJ21_addEntryToEmptyMap_36 rfl (by first | exact Nat.le_of_ble_eq_true rfl | omega) (by first | exact Nat.le_of_ble_eq_true rfl | omega) ?_
  exact ⟨rfl, key q8_ _ _ hq8_⟩
theorem j_put2 (h : xH) (tm a : Nat) (v : Option Nat) (d : Nat) (hd : 5 ≤ d) (κ : Bool) (r : Int) (nk : Option Nat) (md : Int32) (ns : List Nat) (K : Nat → Nat) (V : Nat → Option Nat) (rk : Nat → Int) (hM : TM κ g h tm nk md ns K V rk) (hk : CK κ g h a r) : Ct g l mJ21_put_2 d 1 6 [.ref tm, .ref a, va_rf v, .int (nI 1)] h (fun o h' => ∃ res, o = .inl (some (va_rf res)) ∧ PUT κ g h tm nk ns K V rk a v r res h') := by
  obtain ⟨sz, T, L, R, P, C, hio, hS, hT, hC, hpw, hK⟩ := hM
  have htm := hT.1
  refine Ct.of [some (.ref tm), some (.ref a), some (va_rf v), some (.int (nI 1)), none, none, none, none, none, none] (by decide +kernel) (by cases v <;> rfl) (by cases v <;> exact Nat.le_of_ble_eq_true rfl) (by cases v <;> rfl) (by cases v <;> rfl) ?_
  refine x_aload_n (M := mJ21_put_2) (pc := 0) dJ21_put_2_0 rfl ?_
  refine x_tgr (M := mJ21_put_2) (pc := 1) hT rfl q2087 dJ21_put_2_1 ?_
  refine x_astore4 (M := mJ21_put_2) (pc := 4) dJ21_put_2_4 ?_
  cases T with
  | leaf =>
    simp only [tIo] at hio
    subst hio
    show X g l mJ21_put_2 d 1 6 _ 6 [_, _, _, _, some .null, _, _, _, _, _] _ _ _ _
    refine x_aload (M := mJ21_put_2) (pc := 6) dJ21_put_2_6 rfl ?_
    refine x_ifnonnullN (M := mJ21_put_2) (pc := 8) dJ21_put_2_8 ?_
    refine x_aload_n (M := mJ21_put_2) (pc := 11) dJ21_put_2_11 rfl ?_
    refine x_aload_n (M := mJ21_put_2) (pc := 12) dJ21_put_2_12 rfl ?_
    refine x_aload_n (M := mJ21_put_2) (pc := 13) dJ21_put_2_13 rfl ?_
    refine x_V2 (M := mJ21_put_2) (pc := 14) (M' := mJ21_addEntryToEmptyMap) q2531 kVJ21_addEntryToEmptyMap dJ21_put_2_14 (j_addEmpty h tm a v (d - 1) (by omega) κ r nk sz md K V rk htm hk) (xIs.of kcJ21 htm) (fun v_ h hq_ => ?_)
    obtain ⟨hv_, hP⟩ := hq_; cases hv_
    refine x_null (M := mJ21_put_2) (pc := 17) dJ21_put_2_17 ?_
    refine x_aret (M := mJ21_put_2) (pc := 18) dJ21_put_2_18 rfl (by first | exact Or.inl ⟨_, rfl⟩ | exact Or.inr ⟨_, rfl⟩) (by first | exact Nat.le_of_ble_eq_true rfl | omega) (by first | exact Nat.le_of_ble_eq_true rfl | omega) ?_
    exact ⟨none, rfl, hP⟩
  | inner s n u0 tl' tr =>
    unfold tobj at htm
    show X g l mJ21_put_2 d 1 6 _ 6 [_, _, _, _, some (.ref n), _, _, _, _, _] _ _ _ _
    refine x_aload (M := mJ21_put_2) (pc := 6) dJ21_put_2_6 rfl ?_
    refine x_ifnonnullR (M := mJ21_put_2) (pc := 8) 19 dJ21_put_2_8 (by decide) ?_
    refine x_aload_n (M := mJ21_put_2) (pc := 19) dJ21_put_2_19 rfl ?_
    refine x_get (M := mJ21_put_2) (pc := 20) kcJ21 2 rfl q2086 dJ21_put_2_20 (by first | assumption | exact xu_s _ _ _ | exact (xu_n (by first | assumption | exact Ne.symm (by assumption) | exact xu_fresh (by assumption) (by assumption) | exact (xu_fresh (by assumption) (by assumption)).symm)).trans (by first | assumption | exact xu_s _ _ _ | exact (xu_n (by first | assumption | exact Ne.symm (by assumption) | exact xu_fresh (by assumption) (by assumption) | exact (xu_fresh (by assumption) (by assumption)).symm)).trans (by first | assumption | exact xu_s _ _ _ | exact (xu_n (by first | assumption | exact Ne.symm (by assumption) | exact xu_fresh (by assumption) (by assumption) | exact (xu_fresh (by assumption) (by assumption)).symm)).trans (by first | assumption | exact xu_s _ _ _)))) rfl ?_
    refine x_astore7 (M := mJ21_put_2) (pc := 23) dJ21_put_2_23 ?_
    refine x_aload (M := mJ21_put_2) (pc := 25) dJ21_put_2_25 rfl ?_
    refine x_ifnullN (M := mJ21_put_2) (pc := 27) 112 dJ21_put_2_27 (by decide) ?_
    refine x_aload_n (M := mJ21_put_2) (pc := 112) dJ21_put_2_112 rfl ?_
    refine x_S1 (M := mJ21_put_2) (pc := 113) (M' := mJ23_requireNonNull) q2512 kSJ23_requireNonNull dJ21_put_2_113 (j_reqNN h a (d - 1)) (fun v_ h hq_ => ?_)
    obtain ⟨hv_, rfl⟩ := hq_; cases hv_
    refine x_pop (M := mJ21_put_2) (pc := 116) dJ21_put_2_116 ?_
    refine x_aload_n (M := mJ21_put_2) (pc := 117) dJ21_put_2_117 rfl ?_
    skip
    refine x_castCK (M := mJ21_put_2) (pc := 118) hk q2515 dJ21_put_2_118 ?_
    refine x_astore8 (M := mJ21_put_2) (pc := 121) dJ21_put_2_121 ?_
    exact j_putL _ tm a v d (by omega) κ r nk sz md ns K V rk L R P C _ hio hS hT hC hpw hK hk _ (fun res h' hP => ⟨res, rfl, hP⟩) (.inner s n u0 tl' tr) [] (by simp [cIoL, cIoR, hio]) trivial hS rfl (fun n hn => by cases hn) (fun n hn => by cases hn) (by simp) _ _ _ (fun w hw => by cases hw)
theorem j_put (h : xH) (tm a : Nat) (v : Option Nat) (d : Nat) (hd : 6 ≤ d) (κ : Bool) (r : Int) (nk : Option Nat) (md : Int32) (ns : List Nat) (K : Nat → Nat) (V : Nat → Option Nat) (rk : Nat → Int) (hM : TM κ g h tm nk md ns K V rk) (hk : CK κ g h a r) : Ct g l mJ21_put d 1 6 [.ref tm, .ref a, va_rf v] h (fun o h' => ∃ res, o = .inl (some (va_rf res)) ∧ PUT κ g h tm nk ns K V rk a v r res h') := by
  have htm : ∃ rt sz, h tm = some (tobj rt sz md nk) := by obtain ⟨sz, T, L, R, P, C, hio, hS, hT, hC, hpw, hK⟩ := hM; exact ⟨_, _, hT.1⟩
  obtain ⟨rt, sz, htm⟩ := htm
  refine Ct.of [some (.ref tm), some (.ref a), some (va_rf v)] (by decide +kernel) (by cases v <;> rfl) (by cases v <;> exact Nat.le_of_ble_eq_true rfl) (by cases v <;> rfl) (by cases v <;> rfl) ?_
  refine x_aload_n (M := mJ21_put) (pc := 0) dJ21_put_0 rfl ?_
  refine x_aload_n (M := mJ21_put) (pc := 1) dJ21_put_1 rfl ?_
  refine x_aload_n (M := mJ21_put) (pc := 2) dJ21_put_2 rfl ?_
  refine x_iconst (M := mJ21_put) (pc := 3) (v := nI 1) dJ21_put_3 (by decide) ?_
  refine x_V3 (M := mJ21_put) (pc := 4) (M' := mJ21_put_2) q2527 kVJ21_put_2 dJ21_put_4 (j_put2 h tm a v (d - 1) (by omega) κ r nk md ns K V rk hM hk) (xIs.of kcJ21 htm) (fun v_ h hq_ => ?_)
  obtain ⟨res, hv_, hP⟩ := hq_; cases hv_; have := xref_rf res
  refine x_aret (M := mJ21_put) (pc := 7) dJ21_put_7 rfl (by first | exact Or.inl ⟨_, rfl⟩ | exact Or.inr ⟨_, rfl⟩) (by first | exact Nat.le_of_ble_eq_true rfl | omega) (by first | exact Nat.le_of_ble_eq_true rfl | omega) ?_
  exact ⟨res, rfl, hP⟩
end JDKTM4

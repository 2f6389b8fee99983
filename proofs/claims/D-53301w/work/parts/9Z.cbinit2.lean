/-! CribBooklet.<init> -/
section CBINIT2
set_option maxRecDepth 100000
variable {g : xG} {l : Launch} {h h0 h' : xH}
theorem c_cbInit (hh : xH) (cb d : Nat) (hd : 7 ≤ d) (v0 v1 v2 : Value) (hcb : hh cb = some (.inr (0, [v0, v1, v2]))) : Ct g l mX0_init d 20 200 [.ref cb] hh (fun o h' => o = .inl none ∧ ∃ ow dk sh dq arr sb tb, ST g h' ow cb dq arr 0 sb tb 0 (fun _ => 0) (dk, sh, s0_) [] ∧ xle1 cb hh h') := by
  refine Ct.of [some (.ref cb)] (by decide +kernel) rfl (Nat.le_of_ble_eq_true rfl) rfl rfl ?_
  refine x_aload_n (M := mX0_init) (pc := 0) dX0_init_0 rfl ?_
  refine x_objInit (M := mX0_init) (pc := 1) q160 dX0_init_1 (by first | exact Nat.le_of_ble_eq_true rfl | omega) (by first | exact Nat.le_of_ble_eq_true rfl | (simp [xcat_rf, Value.category])) ?_
  refine x_aload_n (M := mX0_init) (pc := 4) dX0_init_4 rfl ?_
  refine x_new (M := mX0_init) (pc := 5) kcX1 q163 dX0_init_5 (by first | exact Nat.le_of_ble_eq_true rfl | omega) (by first | exact Nat.le_of_ble_eq_true rfl | omega) (fun q5_ hq5_ hb5_ => ?_)
  (try simp only [xu_noneI] at hq5_)
  repeat (obtain ⟨_, hq5_⟩ : _ ∧ _ := hq5_)
  refine x_dup (M := mX0_init) (pc := 8) dX0_init_8 ?_
  have n5 := xu_fresh hq5_ hcb
  refine x_IN0 (M := mX0_init) (pc := 9) (M' := mX1_init) q165 kIX1_init dX0_init_9 (c_deskInit _ q5_ (d - 1) (by omega) _ _ (xu_s _ _ _)) (fun v_ h1 hq_ => ?_)
  obtain ⟨hv_, sh, P, sl, f, i1, i2, i3, i4, i5, i6, i7, i8, i9, i10⟩ := hq_; cases hv_
  have hcb1 := i10 _ _ n5 ((xu_n n5).trans hcb)
  first | refine x_put0' (M := mX0_init) (pc := 12) kcX0 q368 dX0_init_12 ?_ | refine x_put0 (M := mX0_init) (pc := 12) kcX0 q368 dX0_init_12 (by first | assumption | exact xu_s _ _ _ | exact (xu_n (by first | assumption | exact Ne.symm (by assumption) | exact xu_fresh (by assumption) (by assumption) | exact (xu_fresh (by assumption) (by assumption)).symm)).trans (by first | assumption | exact xu_s _ _ _ | exact (xu_n (by first | assumption | exact Ne.symm (by assumption) | exact xu_fresh (by assumption) (by assumption) | exact (xu_fresh (by assumption) (by assumption)).symm)).trans (by first | assumption | exact xu_s _ _ _ | exact (xu_n (by first | assumption | exact Ne.symm (by assumption) | exact xu_fresh (by assumption) (by assumption) | exact (xu_fresh (by assumption) (by assumption)).symm)).trans (by first | assumption | exact xu_s _ _ _)))) ?_
  refine x_aload_n (M := mX0_init) (pc := 15) dX0_init_15 rfl ?_
  refine x_new (M := mX0_init) (pc := 16) kcJ3 q316 dX0_init_16 (by first | exact Nat.le_of_ble_eq_true rfl | omega) (by first | exact Nat.le_of_ble_eq_true rfl | omega) (fun q16_ hq16_ hb16_ => ?_)
  (try simp only [xu_noneI] at hq16_)
  repeat (obtain ⟨_, hq16_⟩ : _ ∧ _ := hq16_)
  refine x_dup (M := mX0_init) (pc := 19) dX0_init_19 ?_
  sorry
end CBINIT2

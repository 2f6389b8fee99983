/-! java.util.ArrayList: clear, addAll, remove, iterator -/
section JDKAL2
set_option maxRecDepth 100000
variable {g : xG} {l : Launch} {h : xH}
theorem getD_mem {xs : List Nat} {i : Nat} (hi : i < xs.length) : xs.getD i 0 ∈ xs := by
  rw [List.getD_eq_getElem?_getD, List.getElem?_eq_getElem hi]; exact List.getElem_mem hi
theorem xu_id {a : Nat} {e : va_E} (ha : h a = some e) : xu h a e = h := by
  funext b; by_cases q : b = a
  · subst q; rw [xu_s, ha]
  · rw [xu_n q]
theorem j_clear (h : xH) (a arr d : Nat) (xs : List Nat) (hA : AL g h a arr xs) : Ct g l mJ2_clear d 0 0 [.ref a] h (fun o h' => o = .inl none ∧ AL g h' a arr [] ∧ xle2 a arr h h') := by
  obtain ⟨mcn, cap, f, ha, hO, h1, h2, h3, hf, h4, h5⟩ := hA
  refine Ct.of [some (.ref a), none, none, none] (by decide +kernel) rfl (Nat.le_of_ble_eq_true rfl) rfl rfl ?_
  refine x_aload_n (M := mJ2_clear) (pc := 0) dJ2_clear_0 rfl ?_
  refine x_dup (M := mJ2_clear) (pc := 1) dJ2_clear_1 ?_
  refine x_getS (M := mJ2_clear) (pc := 2) kcJ2 0 rfl q196 q195 dJ2_clear_2 (by first | assumption | exact xu_s _ _ _ | exact (xu_n (by first | assumption | exact Ne.symm (by assumption) | exact xu_fresh (by assumption) (by assumption) | exact (xu_fresh (by assumption) (by assumption)).symm)).trans (by first | assumption | exact xu_s _ _ _ | exact (xu_n (by first | assumption | exact Ne.symm (by assumption) | exact xu_fresh (by assumption) (by assumption) | exact (xu_fresh (by assumption) (by assumption)).symm)).trans (by first | assumption | exact xu_s _ _ _ | exact (xu_n (by first | assumption | exact Ne.symm (by assumption) | exact xu_fresh (by assumption) (by assumption) | exact (xu_fresh (by assumption) (by assumption)).symm)).trans (by first | assumption | exact xu_s _ _ _)))) rfl ?_
  refine x_iconst (M := mJ2_clear) (pc := 5) (v := nI 1) dJ2_clear_5 (by decide) ?_
  first | with_reducible refine x_iaddN (M := mJ2_clear) (pc := 6) dJ2_clear_6 ?_ | refine x_iadd (M := mJ2_clear) (pc := 6) dJ2_clear_6 ?_
  refine x_GputS (M := mJ2_clear) (pc := 7) kcJ2 0 rfl q196 q195 rfl dJ2_clear_7 (by first | assumption | exact xu_s _ _ _ | exact (xu_n (by first | assumption | exact Ne.symm (by assumption) | exact xu_fresh (by assumption) (by assumption) | exact (xu_fresh (by assumption) (by assumption)).symm)).trans (by first | assumption | exact xu_s _ _ _ | exact (xu_n (by first | assumption | exact Ne.symm (by assumption) | exact xu_fresh (by assumption) (by assumption) | exact (xu_fresh (by assumption) (by assumption)).symm)).trans (by first | assumption | exact xu_s _ _ _ | exact (xu_n (by first | assumption | exact Ne.symm (by assumption) | exact xu_fresh (by assumption) (by assumption) | exact (xu_fresh (by assumption) (by assumption)).symm)).trans (by first | assumption | exact xu_s _ _ _)))) (by simp) rfl rfl rfl ?_
  refine x_aload_n (M := mJ2_clear) (pc := 10) dJ2_clear_10 rfl ?_
  refine x_get (M := mJ2_clear) (pc := 11) kcJ2 1 rfl q189 dJ2_clear_11 (by first | assumption | exact xu_s _ _ _ | exact (xu_n (by first | assumption | exact Ne.symm (by assumption) | exact xu_fresh (by assumption) (by assumption) | exact (xu_fresh (by assumption) (by assumption)).symm)).trans (by first | assumption | exact xu_s _ _ _ | exact (xu_n (by first | assumption | exact Ne.symm (by assumption) | exact xu_fresh (by assumption) (by assumption) | exact (xu_fresh (by assumption) (by assumption)).symm)).trans (by first | assumption | exact xu_s _ _ _ | exact (xu_n (by first | assumption | exact Ne.symm (by assumption) | exact xu_fresh (by assumption) (by assumption) | exact (xu_fresh (by assumption) (by assumption)).symm)).trans (by first | assumption | exact xu_s _ _ _)))) rfl ?_
  refine x_astore1 (M := mJ2_clear) (pc := 14) dJ2_clear_14 ?_
  refine x_aload_n (M := mJ2_clear) (pc := 15) dJ2_clear_15 rfl ?_
  refine x_get (M := mJ2_clear) (pc := 16) kcJ2 2 rfl q192 dJ2_clear_16 (by first | assumption | exact xu_s _ _ _ | exact (xu_n (by first | assumption | exact Ne.symm (by assumption) | exact xu_fresh (by assumption) (by assumption) | exact (xu_fresh (by assumption) (by assumption)).symm)).trans (by first | assumption | exact xu_s _ _ _ | exact (xu_n (by first | assumption | exact Ne.symm (by assumption) | exact xu_fresh (by assumption) (by assumption) | exact (xu_fresh (by assumption) (by assumption)).symm)).trans (by first | assumption | exact xu_s _ _ _ | exact (xu_n (by first | assumption | exact Ne.symm (by assumption) | exact xu_fresh (by assumption) (by assumption) | exact (xu_fresh (by assumption) (by assumption)).symm)).trans (by first | assumption | exact xu_s _ _ _)))) rfl ?_
  refine x_istore2 (M := mJ2_clear) (pc := 19) dJ2_clear_19 ?_
  refine x_aload_n (M := mJ2_clear) (pc := 20) dJ2_clear_20 rfl ?_
  refine x_iconst (M := mJ2_clear) (pc := 21) (v := nI 0) dJ2_clear_21 (by decide) ?_
  refine x_dup_x1 (M := mJ2_clear) (pc := 22) dJ2_clear_22 ?_
  first | refine x_put2' (M := mJ2_clear) (pc := 23) kcJ2 q192 dJ2_clear_23 ?_ | refine x_put2 (M := mJ2_clear) (pc := 23) kcJ2 q192 dJ2_clear_23 (by first | assumption | exact xu_s _ _ _ | exact (xu_n (by first | assumption | exact Ne.symm (by assumption) | exact xu_fresh (by assumption) (by assumption) | exact (xu_fresh (by assumption) (by assumption)).symm)).trans (by first | assumption | exact xu_s _ _ _ | exact (xu_n (by first | assumption | exact Ne.symm (by assumption) | exact xu_fresh (by assumption) (by assumption) | exact (xu_fresh (by assumption) (by assumption)).symm)).trans (by first | assumption | exact xu_s _ _ _ | exact (xu_n (by first | assumption | exact Ne.symm (by assumption) | exact xu_fresh (by assumption) (by assumption) | exact (xu_fresh (by assumption) (by assumption)).symm)).trans (by first | assumption | exact xu_s _ _ _)))) ?_
  refine x_istore3 (M := mJ2_clear) (pc := 26) dJ2_clear_26 ?_
  rcases hO with hb | ⟨rfl, rfl⟩
  · have hb' : ∀ e, xu h a e arr = some (.inl (xdA g 3, cap, .inr (.inr (.inr (.inr f))))) := fun e => (xu_n h4).trans hb
    rw [← xu_id (hb' _)]
    refine j_clear_l d a arr cap xs.length h2 h1 _ _ (fun f' hf' => ⟨rfl, ⟨_, cap, f', (xu_n (Ne.symm h4)).trans (xu_s _ _ _), Or.inl (xu_s _ _ _), Nat.zero_le _, h2, fun i hi => absurd hi (Nat.not_lt_zero i), fun i _ hc => hf' i hc, h4, h5⟩, fun b e n1 n2 hb => (xu_n n2).trans ((xu_n n1).trans hb)⟩) xs.length 0 (by omega) f (fun i hc hi => hf i (by omega) hc)
  · have e0 : xs.length = 0 := by omega
    rw [e0]
    refine x_iload_n (M := mJ2_clear) (pc := 27) dJ2_clear_27 rfl ?_
    refine x_iload_n (M := mJ2_clear) (pc := 28) dJ2_clear_28 rfl ?_
    first | with_reducible refine x_icmp_geN (M := mJ2_clear) (pc := 29) 42 dJ2_clear_29 (by decide) (by omega) (by omega) (fun c29 => ?_) (fun c29 => ?_) | refine x_icmp_ge (M := mJ2_clear) (pc := 29) 42 dJ2_clear_29 (by decide) (fun c29 => ?_) (fun c29 => ?_)
    · refine x_vret (M := mJ2_clear) (pc := 42) dJ2_clear_42 rfl (by first | exact Nat.le_of_ble_eq_true rfl | omega) (by first | exact Nat.le_of_ble_eq_true rfl | omega) ?_
      exact ⟨rfl, ⟨_, 0, f, xu_s _ _ _, Or.inr ⟨rfl, rfl⟩, Nat.le_refl _, h2, fun i hi => absurd hi (Nat.not_lt_zero i), fun i _ hc => absurd hc (Nat.not_lt_zero i), h4, h5⟩, fun b e n1 n2 hb => (xu_n n1).trans hb⟩
    · omega
theorem j_toArray (h : xH) (a arr d : Nat) (xs : List Nat) (hd : 3 ≤ d) (hA : AL g h a arr xs) (hel : ∀ y ∈ xs, xOb g h y) (hl : xs.length < 2 ^ 14) : Ct g l mJ2_toArray d 1 xs.length [.ref a] h (fun o h' => ∃ q f, o = .inl (some (.ref q)) ∧ h q = none ∧ (∀ i, i < xs.length → f i = some (xs.getD i 0)) ∧ h' = xu h q (.inl (xdA g 3, xs.length, .inr (.inr (.inr (.inr f)))))) := by
  obtain ⟨mcn, cap, f, ha, hO, h1, h2, h3, hf, h4, h5⟩ := hA
  refine Ct.of [some (.ref a)] (by decide +kernel) rfl (Nat.le_of_ble_eq_true rfl) rfl rfl ?_
  refine x_aload_n (M := mJ2_toArray) (pc := 0) dJ2_toArray_0 rfl ?_
  refine x_get (M := mJ2_toArray) (pc := 1) kcJ2 1 rfl q189 dJ2_toArray_1 (by first | assumption | exact xu_s _ _ _ | exact (xu_n (by first | assumption | exact Ne.symm (by assumption) | exact xu_fresh (by assumption) (by assumption) | exact (xu_fresh (by assumption) (by assumption)).symm)).trans (by first | assumption | exact xu_s _ _ _ | exact (xu_n (by first | assumption | exact Ne.symm (by assumption) | exact xu_fresh (by assumption) (by assumption) | exact (xu_fresh (by assumption) (by assumption)).symm)).trans (by first | assumption | exact xu_s _ _ _ | exact (xu_n (by first | assumption | exact Ne.symm (by assumption) | exact xu_fresh (by assumption) (by assumption) | exact (xu_fresh (by assumption) (by assumption)).symm)).trans (by first | assumption | exact xu_s _ _ _)))) rfl ?_
  refine x_aload_n (M := mJ2_toArray) (pc := 4) dJ2_toArray_4 rfl ?_
  refine x_get (M := mJ2_toArray) (pc := 5) kcJ2 2 rfl q192 dJ2_toArray_5 (by first | assumption | exact xu_s _ _ _ | exact (xu_n (by first | assumption | exact Ne.symm (by assumption) | exact xu_fresh (by assumption) (by assumption) | exact (xu_fresh (by assumption) (by assumption)).symm)).trans (by first | assumption | exact xu_s _ _ _ | exact (xu_n (by first | assumption | exact Ne.symm (by assumption) | exact xu_fresh (by assumption) (by assumption) | exact (xu_fresh (by assumption) (by assumption)).symm)).trans (by first | assumption | exact xu_s _ _ _ | exact (xu_n (by first | assumption | exact Ne.symm (by assumption) | exact xu_fresh (by assumption) (by assumption) | exact (xu_fresh (by assumption) (by assumption)).symm)).trans (by first | assumption | exact xu_s _ _ _)))) rfl ?_
  refine x_S2 (M := mJ2_toArray) (pc := 8) (M' := mJ11_copyOf) q691 kSJ11_copyOf dJ2_toArray_8 (j_copyOf h arr cap xs.length (d - 1) f (by omega) hO (by omega) (by omega) (xOb_el hel h3 hf)) (fun v_ h hq_ => ?_)
  obtain ⟨q, hv_, hq, rfl⟩ := hq_; cases hv_
  refine x_aret (M := mJ2_toArray) (pc := 11) dJ2_toArray_11 rfl (by first | exact Or.inl ⟨_, rfl⟩ | exact Or.inr ⟨_, rfl⟩) (by first | exact Nat.le_of_ble_eq_true rfl | omega) (by first | exact Nat.le_of_ble_eq_true rfl | omega) ?_
  exact ⟨q, _, rfl, hq, fun i hi => by rw [if_pos (by omega)]; exact h3 i hi, rfl⟩
theorem qIF_toA : xIF "java/util/ArrayList" ⟨"java/util/Collection", "toArray", "()[Ljava/lang/Object;"⟩ mJ2_toArray 0 := ⟨q686, q688, kCJ2_toArray, by decide +kernel, rfl, by decide +kernel⟩
/-- addAll to an empty list -/
theorem j_addAll (h : xH) (a b arr d : Nat) (mcn : Int32) (ys : List Nat) (hd : 5 ≤ d) (ha : h a = some (.inr (28, [.int mcn, .ref (xca g 0 0), .int (nI 0)]))) (hc : xca g 0 0 ≠ a) (hB : AL g h b arr ys) (hel : ∀ y ∈ ys, xOb g h y) (hl : ys.length < 2 ^ 12) : Ct g l mJ2_addAll d 2 (3 * ys.length + 10) [.ref a, .ref b] h (fun o h' => (∃ v, o = .inl (some (.int v))) ∧ ∃ arr', AL g h' a arr' ys ∧ xle1 a h h' ∧ (arr' = xca g 0 0 ∨ h arr' = none)) := by
  refine Ct.of [some (.ref a), some (.ref b), none, none, none, none] (by decide +kernel) rfl (Nat.le_of_ble_eq_true rfl) rfl rfl ?_
  refine x_aload_n (M := mJ2_addAll) (pc := 0) dJ2_addAll_0 rfl ?_
  refine x_IF0 (M := mJ2_addAll) (pc := 1) (M' := mJ2_toArray) q661 qIF_toA dJ2_addAll_1 (j_toArray h b arr (d - 1) ys (by omega) hB hel (by omega)) hB.is (fun v_ h1 hq_ => ?_)
  obtain ⟨q, f, hv_, hq, hfy, rfl⟩ := hq_
  cases hv_
  have hqa : a ≠ q := fun e => by rw [← e, ha] at hq; cases hq
  have ha1 : xu h q (.inl (xdA g 3, ys.length, .inr (.inr (.inr (.inr f))))) a = some (.inr (28, [.int mcn, .ref (xca g 0 0), .int (nI 0)])) := (xu_n hqa).trans ha
  refine x_astore2 (M := mJ2_addAll) (pc := 6) dJ2_addAll_6 ?_
  refine x_aload_n (M := mJ2_addAll) (pc := 7) dJ2_addAll_7 rfl ?_
  refine x_dup (M := mJ2_addAll) (pc := 8) dJ2_addAll_8 ?_
  refine x_getS (M := mJ2_addAll) (pc := 9) kcJ2 0 rfl q196 q195 dJ2_addAll_9 (by first | assumption | exact xu_s _ _ _ | exact (xu_n (by first | assumption | exact Ne.symm (by assumption) | exact xu_fresh (by assumption) (by assumption) | exact (xu_fresh (by assumption) (by assumption)).symm)).trans (by first | assumption | exact xu_s _ _ _ | exact (xu_n (by first | assumption | exact Ne.symm (by assumption) | exact xu_fresh (by assumption) (by assumption) | exact (xu_fresh (by assumption) (by assumption)).symm)).trans (by first | assumption | exact xu_s _ _ _ | exact (xu_n (by first | assumption | exact Ne.symm (by assumption) | exact xu_fresh (by assumption) (by assumption) | exact (xu_fresh (by assumption) (by assumption)).symm)).trans (by first | assumption | exact xu_s _ _ _)))) rfl ?_
  refine x_iconst (M := mJ2_addAll) (pc := 12) (v := nI 1) dJ2_addAll_12 (by decide) ?_
  first | with_reducible refine x_iaddN (M := mJ2_addAll) (pc := 13) dJ2_addAll_13 ?_ | refine x_iadd (M := mJ2_addAll) (pc := 13) dJ2_addAll_13 ?_
  refine x_GputS (M := mJ2_addAll) (pc := 14) kcJ2 0 rfl q196 q195 rfl dJ2_addAll_14 (by first | assumption | exact xu_s _ _ _ | exact (xu_n (by first | assumption | exact Ne.symm (by assumption) | exact xu_fresh (by assumption) (by assumption) | exact (xu_fresh (by assumption) (by assumption)).symm)).trans (by first | assumption | exact xu_s _ _ _ | exact (xu_n (by first | assumption | exact Ne.symm (by assumption) | exact xu_fresh (by assumption) (by assumption) | exact (xu_fresh (by assumption) (by assumption)).symm)).trans (by first | assumption | exact xu_s _ _ _ | exact (xu_n (by first | assumption | exact Ne.symm (by assumption) | exact xu_fresh (by assumption) (by assumption) | exact (xu_fresh (by assumption) (by assumption)).symm)).trans (by first | assumption | exact xu_s _ _ _)))) (by simp) rfl rfl rfl ?_
  refine x_aload_n (M := mJ2_addAll) (pc := 17) dJ2_addAll_17 rfl ?_
  refine x_alen (M := mJ2_addAll) (pc := 18) dJ2_addAll_18 (by first | assumption | exact xu_s _ _ _ | exact (xu_n (by first | assumption | exact Ne.symm (by assumption) | exact xu_fresh (by assumption) (by assumption) | exact (xu_fresh (by assumption) (by assumption)).symm)).trans (by first | assumption | exact xu_s _ _ _ | exact (xu_n (by first | assumption | exact Ne.symm (by assumption) | exact xu_fresh (by assumption) (by assumption) | exact (xu_fresh (by assumption) (by assumption)).symm)).trans (by first | assumption | exact xu_s _ _ _ | exact (xu_n (by first | assumption | exact Ne.symm (by assumption) | exact xu_fresh (by assumption) (by assumption) | exact (xu_fresh (by assumption) (by assumption)).symm)).trans (by first | assumption | exact xu_s _ _ _)))) rfl ?_
  refine x_istore3 (M := mJ2_addAll) (pc := 19) dJ2_addAll_19 ?_
  refine x_iload_n (M := mJ2_addAll) (pc := 20) dJ2_addAll_20 rfl ?_
  first | with_reducible refine x_ifB_ne (M := mJ2_addAll) (pc := 21) 26 dJ2_addAll_21 (by decide) (fun c21 => ?_) (fun c21 => ?_) | with_reducible refine x_if_neN (M := mJ2_addAll) (pc := 21) 26 dJ2_addAll_21 (by decide) (by omega) (fun c21 => ?_) (fun c21 => ?_) | refine x_if_ne (M := mJ2_addAll) (pc := 21) 26 dJ2_addAll_21 (by decide) (fun c21 => ?_) (fun c21 => ?_)
  · refine x_iload_n (M := mJ2_addAll) (pc := 26) dJ2_addAll_26 rfl ?_
    refine x_aload_n (M := mJ2_addAll) (pc := 27) dJ2_addAll_27 rfl ?_
    refine x_get (M := mJ2_addAll) (pc := 28) kcJ2 1 rfl q189 dJ2_addAll_28 (by first | assumption | exact xu_s _ _ _ | exact (xu_n (by first | assumption | exact Ne.symm (by assumption) | exact xu_fresh (by assumption) (by assumption) | exact (xu_fresh (by assumption) (by assumption)).symm)).trans (by first | assumption | exact xu_s _ _ _ | exact (xu_n (by first | assumption | exact Ne.symm (by assumption) | exact xu_fresh (by assumption) (by assumption) | exact (xu_fresh (by assumption) (by assumption)).symm)).trans (by first | assumption | exact xu_s _ _ _ | exact (xu_n (by first | assumption | exact Ne.symm (by assumption) | exact xu_fresh (by assumption) (by assumption) | exact (xu_fresh (by assumption) (by assumption)).symm)).trans (by first | assumption | exact xu_s _ _ _)))) rfl ?_
    refine x_dup (M := mJ2_addAll) (pc := 31) dJ2_addAll_31 ?_
    refine x_astore4 (M := mJ2_addAll) (pc := 32) dJ2_addAll_32 ?_
    refine x_alenE (M := mJ2_addAll) (pc := 34) dJ2_addAll_34 ?_
    refine x_aload_n (M := mJ2_addAll) (pc := 35) dJ2_addAll_35 rfl ?_
    refine x_get (M := mJ2_addAll) (pc := 36) kcJ2 2 rfl q192 dJ2_addAll_36 (by first | assumption | exact xu_s _ _ _ | exact (xu_n (by first | assumption | exact Ne.symm (by assumption) | exact xu_fresh (by assumption) (by assumption) | exact (xu_fresh (by assumption) (by assumption)).symm)).trans (by first | assumption | exact xu_s _ _ _ | exact (xu_n (by first | assumption | exact Ne.symm (by assumption) | exact xu_fresh (by assumption) (by assumption) | exact (xu_fresh (by assumption) (by assumption)).symm)).trans (by first | assumption | exact xu_s _ _ _ | exact (xu_n (by first | assumption | exact Ne.symm (by assumption) | exact xu_fresh (by assumption) (by assumption) | exact (xu_fresh (by assumption) (by assumption)).symm)).trans (by first | assumption | exact xu_s _ _ _)))) rfl ?_
    refine x_dup (M := mJ2_addAll) (pc := 39) dJ2_addAll_39 ?_
    refine x_istore5 (M := mJ2_addAll) (pc := 40) dJ2_addAll_40 ?_
    first | with_reducible refine x_isubN (M := mJ2_addAll) (pc := 42) dJ2_addAll_42 (by omega) ?_ | refine x_isub (M := mJ2_addAll) (pc := 42) dJ2_addAll_42 ?_
    first | with_reducible refine x_icmp_leN (M := mJ2_addAll) (pc := 43) 56 dJ2_addAll_43 (by decide) (by omega) (by omega) (fun c43 => ?_) (fun c43 => ?_) | refine x_icmp_le (M := mJ2_addAll) (pc := 43) 56 dJ2_addAll_43 (by decide) (fun c43 => ?_) (fun c43 => ?_)
    · omega
    · have hA2 : AL0 g (xu (xu h q (.inl (xdA g 3, ys.length, .inr (.inr (.inr (.inr f)))))) a (.inr (28, [.int (mcn + nI 1), .ref (xca g 0 0), .int (nI 0)]))) a (mcn + nI 1) (xca g 0 0) 0 (fun _ => none) [] := ⟨xu_s _ _ _, Or.inr ⟨rfl, rfl⟩, Nat.le_refl _, by decide, fun i hi => absurd hi (Nat.not_lt_zero i), fun _ _ _ => rfl, hc, fun _ => rfl⟩
      refine x_aload_n (M := mJ2_addAll) (pc := 46) dJ2_addAll_46 rfl ?_
      refine x_iload (M := mJ2_addAll) (pc := 47) dJ2_addAll_47 rfl ?_
      refine x_iload_n (M := mJ2_addAll) (pc := 49) dJ2_addAll_49 rfl ?_
      first | with_reducible refine x_iaddN (M := mJ2_addAll) (pc := 50) dJ2_addAll_50 ?_ | refine x_iadd (M := mJ2_addAll) (pc := 50) dJ2_addAll_50 ?_
      refine x_V1 (M := mJ2_addAll) (pc := 51) (M' := mJ2_grow) q1045 kVJ2_grow dJ2_addAll_51 (j_grow _ a (xca g 0 0) 0 (0 + ys.length) (d - 1) _ (fun _ => none) [] (by omega) hA2 (fun y hy => absurd hy (List.not_mem_nil)) (by omega) (by omega)) (hA2.is) (fun v_ h hq_ => ?_)
      obtain ⟨q2, cap', f', hv_, hq2, w1, w2, w3, w4, rfl⟩ := hq_; cases hv_
      refine x_astore4 (M := mJ2_addAll) (pc := 54) dJ2_addAll_54 ?_
      refine x_aload_n (M := mJ2_addAll) (pc := 56) dJ2_addAll_56 rfl ?_
      refine x_iconst (M := mJ2_addAll) (pc := 57) (v := nI 0) dJ2_addAll_57 (by decide) ?_
      refine x_aload (M := mJ2_addAll) (pc := 58) dJ2_addAll_58 rfl ?_
      refine x_iload (M := mJ2_addAll) (pc := 60) dJ2_addAll_60 rfl ?_
      refine x_iload_n (M := mJ2_addAll) (pc := 62) dJ2_addAll_62 rfl ?_
      skip
      obtain ⟨n2a, hq2'⟩ := xu_none hq2
      obtain ⟨n2q, hq2''⟩ := xu_none hq2'
      have hR : ∀ {e1 e2 e3}, (xu (xu (xu (xu h q (.inl (xdA g 3, ys.length, .inr (.inr (.inr (.inr f)))))) a e1) q2 e2) a e3) q = some (.inl (xdA g 3, ys.length, .inr (.inr (.inr (.inr f))))) := by
        intro e1 e2 e3
        exact (xu_n (Ne.symm hqa)).trans ((xu_n (Ne.symm n2q)).trans ((xu_n (Ne.symm hqa)).trans (xu_s _ _ _)))
      have hO : ∀ {e1 e2 e3} (b : Nat) (e : va_E), b ≠ a → h b = some e → (xu (xu (xu (xu h q (.inl (xdA g 3, ys.length, .inr (.inr (.inr (.inr f)))))) a e1) q2 e2) a e3) b = some e := by
        intro e1 e2 e3 b e nb hb
        exact (xu_n nb).trans ((xu_n (fun z => by rw [z, hq2''] at hb; cases hb)).trans ((xu_n nb).trans ((xu_n (fun z => by rw [z, hq] at hb; cases hb)).trans hb)))
      refine x_copyR (M := mJ2_addAll) (pc := 63) (t0 := 3) (t1 := 3) (E0 := "java/lang/Object") (E1 := "java/lang/Object") (f := f) (f1 := f') q1052 dJ2_addAll_63 hR ((xu_n n2a).trans (xu_s _ _ _)) rfl rfl (fun i hi y hy => ?_) (by omega) (by omega) (by omega) (by omega) (by omega) (Nat.le_of_ble_eq_true rfl) ?_
      · rw [Nat.zero_add, hfy i hi] at hy
        cases hy
        obtain ⟨C, z, z2⟩ := hel (ys.getD i 0) (getD_mem hi)
        refine ⟨C, ?_, z2⟩
        rcases z with ⟨ci, fs, r, z1, z3, z4⟩ | z
        · by_cases e : ys.getD i 0 = a
          · rw [e, ha] at z1; cases z1; exact Or.inl ⟨28, _, r, by rw [e]; exact xu_s _ _ _, z3, z4⟩
          · exact Or.inl ⟨ci, fs, r, hO _ _ e z1, z3, z4⟩
        · exact Or.inr z
      · refine x_aload_n (M := mJ2_addAll) (pc := 66) dJ2_addAll_66 rfl ?_
        refine x_iload (M := mJ2_addAll) (pc := 67) dJ2_addAll_67 rfl ?_
        refine x_iload_n (M := mJ2_addAll) (pc := 69) dJ2_addAll_69 rfl ?_
        first | with_reducible refine x_iaddN (M := mJ2_addAll) (pc := 70) dJ2_addAll_70 ?_ | refine x_iadd (M := mJ2_addAll) (pc := 70) dJ2_addAll_70 ?_
        first | refine x_put2' (M := mJ2_addAll) (pc := 71) kcJ2 q192 dJ2_addAll_71 ?_ | refine x_put2 (M := mJ2_addAll) (pc := 71) kcJ2 q192 dJ2_addAll_71 (by first | assumption | exact xu_s _ _ _ | exact (xu_n (by first | assumption | exact Ne.symm (by assumption) | exact xu_fresh (by assumption) (by assumption) | exact (xu_fresh (by assumption) (by assumption)).symm)).trans (by first | assumption | exact xu_s _ _ _ | exact (xu_n (by first | assumption | exact Ne.symm (by assumption) | exact xu_fresh (by assumption) (by assumption) | exact (xu_fresh (by assumption) (by assumption)).symm)).trans (by first | assumption | exact xu_s _ _ _ | exact (xu_n (by first | assumption | exact Ne.symm (by assumption) | exact xu_fresh (by assumption) (by assumption) | exact (xu_fresh (by assumption) (by assumption)).symm)).trans (by first | assumption | exact xu_s _ _ _)))) ?_
        refine x_iconst (M := mJ2_addAll) (pc := 74) (v := nI 1) dJ2_addAll_74 (by decide) ?_
        refine x_zret (M := mJ2_addAll) (pc := 75) dJ2_addAll_75 rfl (by first | with_reducible exact xz0 | with_reducible exact xz1 | with_reducible exact bI_01 _ | with_reducible assumption | assumption) (by first | exact Nat.le_of_ble_eq_true rfl | omega) (by first | exact Nat.le_of_ble_eq_true rfl | omega) ?_
        refine ⟨⟨_, rfl⟩, q2, ⟨_, cap', _, (xu_s _ _ _).trans (by rw [Nat.zero_add]), Or.inl ((xu_n n2a).trans (xu_s _ _ _)), by omega, by omega, fun i hi => ?_, fun i hi hc => ?_, n2a, fun z => by omega⟩, fun b e n1 hb => (xu_n n1).trans ((xu_n (fun z => by rw [z, hq2''] at hb; cases hb)).trans (hO b e n1 hb)), Or.inr hq2''⟩
        · unfold va_cpy; rw [if_pos (by omega), Nat.zero_add, Nat.sub_zero]; exact hfy i hi
        · unfold va_cpy; simp [show ¬ i < ys.length by omega]; exact w4 i (by simp)
  · have e0 : ys = [] := List.eq_nil_of_length_eq_zero c21
    refine x_iconst (M := mJ2_addAll) (pc := 24) (v := nI 0) dJ2_addAll_24 (by decide) ?_
    refine x_zret (M := mJ2_addAll) (pc := 25) dJ2_addAll_25 rfl (by first | with_reducible exact xz0 | with_reducible exact xz1 | with_reducible exact bI_01 _ | with_reducible assumption | assumption) (by first | exact Nat.le_of_ble_eq_true rfl | omega) (by first | exact Nat.le_of_ble_eq_true rfl | omega) ?_
    refine ⟨⟨_, rfl⟩, xca g 0 0, ⟨_, 0, fun _ => none, by rw [e0]; exact xu_s _ _ _, Or.inr ⟨rfl, rfl⟩, by rw [e0]; exact Nat.le_refl _, by decide, fun i hi => by rw [e0] at hi; exact absurd hi (Nat.not_lt_zero i), fun _ _ _ => rfl, hc, fun _ => rfl⟩, fun b e n1 hb => (xu_n n1).trans ((xu_n (fun z => by rw [z, hq] at hb; cases hb)).trans hb), Or.inl rfl⟩
theorem eraseIdx_getD (xs : List Nat) (i k : Nat) : (xs.eraseIdx i).getD k 0 = if k < i then xs.getD k 0 else xs.getD (k + 1) 0 := by
  simp only [List.getD_eq_getElem?_getD, List.getElem?_eraseIdx]
  split <;> rfl
theorem j_fastRemove (h : xH) (a arr cap i d : Nat) (mcn : Int32) (f : Nat → Option Nat) (xs : List Nat) (hd : 1 ≤ d) (hA : AL0 g h a mcn arr cap f xs) (hel : ∀ y ∈ xs, xOb g h y) (hi : i < xs.length) : Ct g l mJ2_fastRemove d 0 0 [.ref a, .ref arr, .int (nI i)] h (fun o h' => o = .inl none ∧ AL g h' a arr (xs.eraseIdx i) ∧ xle2 a arr h h') := by
  obtain ⟨ha, hO, h1, h2, h3, hf, h4, h5⟩ := hA
  have hb : h arr = some (.inl (xdA g 3, cap, .inr (.inr (.inr (.inr f))))) := hO.resolve_right (fun q => by omega)
  have hlen : (xs.eraseIdx i).length = xs.length - 1 := by rw [List.length_eraseIdx, if_pos hi]
  have fin : ∀ (F : Nat → Option Nat), (∀ k, k < xs.length - 1 → F k = some ((xs.eraseIdx i).getD k 0)) → (∀ k, xs.length ≤ k → k < cap → F k = none) → ∀ h1 : xH, h1 a = some (.inr (28, [.int (mcn + nI 1), .ref arr, .int (nI (xs.length - 1))])) → h1 arr = some (.inl (xdA g 3, cap, .inr (.inr (.inr (.inr (va_up F (xs.length - 1) none)))))) → AL g h1 a arr (xs.eraseIdx i) := by
    intro F F1 F2 h1 k1 k2
    refine ⟨_, cap, _, by rw [hlen]; exact k1, Or.inl k2, by omega, h2, fun k hk => ?_, fun k hk hc => ?_, h4, h5⟩
    · rw [hlen] at hk; simp [va_up, show k ≠ xs.length - 1 by omega]; exact F1 k hk
    · rw [hlen] at hk
      by_cases e : k = xs.length - 1
      · simp [va_up, e]
      · simp [va_up, e]; exact F2 k (by omega) hc
  refine Ct.of [some (.ref a), some (.ref arr), some (.int (nI i)), none] (by decide +kernel) rfl (Nat.le_of_ble_eq_true rfl) rfl rfl ?_
  refine x_aload_n (M := mJ2_fastRemove) (pc := 0) dJ2_fastRemove_0 rfl ?_
  refine x_dup (M := mJ2_fastRemove) (pc := 1) dJ2_fastRemove_1 ?_
  refine x_getS (M := mJ2_fastRemove) (pc := 2) kcJ2 0 rfl q196 q195 dJ2_fastRemove_2 (by first | assumption | exact xu_s _ _ _ | exact (xu_n (by first | assumption | exact Ne.symm (by assumption) | exact xu_fresh (by assumption) (by assumption) | exact (xu_fresh (by assumption) (by assumption)).symm)).trans (by first | assumption | exact xu_s _ _ _ | exact (xu_n (by first | assumption | exact Ne.symm (by assumption) | exact xu_fresh (by assumption) (by assumption) | exact (xu_fresh (by assumption) (by assumption)).symm)).trans (by first | assumption | exact xu_s _ _ _ | exact (xu_n (by first | assumption | exact Ne.symm (by assumption) | exact xu_fresh (by assumption) (by assumption) | exact (xu_fresh (by assumption) (by assumption)).symm)).trans (by first | assumption | exact xu_s _ _ _)))) rfl ?_
  refine x_iconst (M := mJ2_fastRemove) (pc := 5) (v := nI 1) dJ2_fastRemove_5 (by decide) ?_
  first | with_reducible refine x_iaddN (M := mJ2_fastRemove) (pc := 6) dJ2_fastRemove_6 ?_ | refine x_iadd (M := mJ2_fastRemove) (pc := 6) dJ2_fastRemove_6 ?_
  refine x_GputS (M := mJ2_fastRemove) (pc := 7) kcJ2 0 rfl q196 q195 rfl dJ2_fastRemove_7 (by first | assumption | exact xu_s _ _ _ | exact (xu_n (by first | assumption | exact Ne.symm (by assumption) | exact xu_fresh (by assumption) (by assumption) | exact (xu_fresh (by assumption) (by assumption)).symm)).trans (by first | assumption | exact xu_s _ _ _ | exact (xu_n (by first | assumption | exact Ne.symm (by assumption) | exact xu_fresh (by assumption) (by assumption) | exact (xu_fresh (by assumption) (by assumption)).symm)).trans (by first | assumption | exact xu_s _ _ _ | exact (xu_n (by first | assumption | exact Ne.symm (by assumption) | exact xu_fresh (by assumption) (by assumption) | exact (xu_fresh (by assumption) (by assumption)).symm)).trans (by first | assumption | exact xu_s _ _ _)))) (by simp) rfl rfl rfl ?_
  refine x_aload_n (M := mJ2_fastRemove) (pc := 10) dJ2_fastRemove_10 rfl ?_
  refine x_get (M := mJ2_fastRemove) (pc := 11) kcJ2 2 rfl q192 dJ2_fastRemove_11 (by first | assumption | exact xu_s _ _ _ | exact (xu_n (by first | assumption | exact Ne.symm (by assumption) | exact xu_fresh (by assumption) (by assumption) | exact (xu_fresh (by assumption) (by assumption)).symm)).trans (by first | assumption | exact xu_s _ _ _ | exact (xu_n (by first | assumption | exact Ne.symm (by assumption) | exact xu_fresh (by assumption) (by assumption) | exact (xu_fresh (by assumption) (by assumption)).symm)).trans (by first | assumption | exact xu_s _ _ _ | exact (xu_n (by first | assumption | exact Ne.symm (by assumption) | exact xu_fresh (by assumption) (by assumption) | exact (xu_fresh (by assumption) (by assumption)).symm)).trans (by first | assumption | exact xu_s _ _ _)))) rfl ?_
  refine x_iconst (M := mJ2_fastRemove) (pc := 14) (v := nI 1) dJ2_fastRemove_14 (by decide) ?_
  first | with_reducible refine x_isubN (M := mJ2_fastRemove) (pc := 15) dJ2_fastRemove_15 (by omega) ?_ | refine x_isub (M := mJ2_fastRemove) (pc := 15) dJ2_fastRemove_15 ?_
  refine x_dup (M := mJ2_fastRemove) (pc := 16) dJ2_fastRemove_16 ?_
  refine x_istore3 (M := mJ2_fastRemove) (pc := 17) dJ2_fastRemove_17 ?_
  refine x_iload_n (M := mJ2_fastRemove) (pc := 18) dJ2_fastRemove_18 rfl ?_
  first | with_reducible refine x_icmp_leN (M := mJ2_fastRemove) (pc := 19) 34 dJ2_fastRemove_19 (by decide) (by omega) (by omega) (fun c19 => ?_) (fun c19 => ?_) | refine x_icmp_le (M := mJ2_fastRemove) (pc := 19) 34 dJ2_fastRemove_19 (by decide) (fun c19 => ?_) (fun c19 => ?_)
  · refine x_aload_n (M := mJ2_fastRemove) (pc := 34) dJ2_fastRemove_34 rfl ?_
    refine x_aload_n (M := mJ2_fastRemove) (pc := 35) dJ2_fastRemove_35 rfl ?_
    refine x_iload_n (M := mJ2_fastRemove) (pc := 36) dJ2_fastRemove_36 rfl ?_
    refine x_dup_x1 (M := mJ2_fastRemove) (pc := 37) dJ2_fastRemove_37 ?_
    first | refine x_put2' (M := mJ2_fastRemove) (pc := 38) kcJ2 q192 dJ2_fastRemove_38 ?_ | refine x_put2 (M := mJ2_fastRemove) (pc := 38) kcJ2 q192 dJ2_fastRemove_38 (by first | assumption | exact xu_s _ _ _ | exact (xu_n (by first | assumption | exact Ne.symm (by assumption) | exact xu_fresh (by assumption) (by assumption) | exact (xu_fresh (by assumption) (by assumption)).symm)).trans (by first | assumption | exact xu_s _ _ _ | exact (xu_n (by first | assumption | exact Ne.symm (by assumption) | exact xu_fresh (by assumption) (by assumption) | exact (xu_fresh (by assumption) (by assumption)).symm)).trans (by first | assumption | exact xu_s _ _ _ | exact (xu_n (by first | assumption | exact Ne.symm (by assumption) | exact xu_fresh (by assumption) (by assumption) | exact (xu_fresh (by assumption) (by assumption)).symm)).trans (by first | assumption | exact xu_s _ _ _)))) ?_
    refine x_null (M := mJ2_fastRemove) (pc := 41) dJ2_fastRemove_41 ?_
    refine x_aastZ (M := mJ2_fastRemove) (pc := 42) _ dJ2_fastRemove_42 (by first | assumption | exact xu_s _ _ _ | exact (xu_n (by first | assumption | exact Ne.symm (by assumption) | exact xu_fresh (by assumption) (by assumption) | exact (xu_fresh (by assumption) (by assumption)).symm)).trans (by first | assumption | exact xu_s _ _ _ | exact (xu_n (by first | assumption | exact Ne.symm (by assumption) | exact xu_fresh (by assumption) (by assumption) | exact (xu_fresh (by assumption) (by assumption)).symm)).trans (by first | assumption | exact xu_s _ _ _ | exact (xu_n (by first | assumption | exact Ne.symm (by assumption) | exact xu_fresh (by assumption) (by assumption) | exact (xu_fresh (by assumption) (by assumption)).symm)).trans (by first | assumption | exact xu_s _ _ _)))) (by first | rfl | assumption) (by first | assumption | omega) (by first | decide | omega) ?_
    refine x_vret (M := mJ2_fastRemove) (pc := 43) dJ2_fastRemove_43 rfl (by first | exact Nat.le_of_ble_eq_true rfl | omega) (by first | exact Nat.le_of_ble_eq_true rfl | omega) ?_
    refine ⟨rfl, fin f (fun k hk => ?_) hf _ ((xu_n (Ne.symm h4)).trans (xu_s _ _ _)) (xu_s _ _ _), fun b e n1 n2 hb => (xu_n n2).trans ((xu_n n1).trans hb)⟩
    rw [h3 k (by omega), eraseIdx_getD, if_pos (by omega)]
  · refine x_aload_n (M := mJ2_fastRemove) (pc := 22) dJ2_fastRemove_22 rfl ?_
    refine x_iload_n (M := mJ2_fastRemove) (pc := 23) dJ2_fastRemove_23 rfl ?_
    refine x_iconst (M := mJ2_fastRemove) (pc := 24) (v := nI 1) dJ2_fastRemove_24 (by decide) ?_
    first | with_reducible refine x_iaddN (M := mJ2_fastRemove) (pc := 25) dJ2_fastRemove_25 ?_ | refine x_iadd (M := mJ2_fastRemove) (pc := 25) dJ2_fastRemove_25 ?_
    refine x_aload_n (M := mJ2_fastRemove) (pc := 26) dJ2_fastRemove_26 rfl ?_
    refine x_iload_n (M := mJ2_fastRemove) (pc := 27) dJ2_fastRemove_27 rfl ?_
    refine x_iload_n (M := mJ2_fastRemove) (pc := 28) dJ2_fastRemove_28 rfl ?_
    refine x_iload_n (M := mJ2_fastRemove) (pc := 29) dJ2_fastRemove_29 rfl ?_
    first | with_reducible refine x_isubN (M := mJ2_fastRemove) (pc := 30) dJ2_fastRemove_30 (by omega) ?_ | refine x_isub (M := mJ2_fastRemove) (pc := 30) dJ2_fastRemove_30 ?_
    refine x_copyR (M := mJ2_fastRemove) (pc := 31) (t0 := 3) (t1 := 3) (E0 := "java/lang/Object") (E1 := "java/lang/Object") (f := f) (f1 := f) q1052 dJ2_fastRemove_31 ((xu_n h4).trans hb) ((xu_n h4).trans hb) rfl rfl (fun k hk y hy => ?_) (by omega) (by omega) (by omega) (by omega) hd (Nat.le_of_ble_eq_true rfl) ?_
    · rw [h3 _ (by omega)] at hy
      cases hy
      exact (hel _ (getD_mem (by omega))).upd ha
    · refine x_aload_n (M := mJ2_fastRemove) (pc := 34) dJ2_fastRemove_34 rfl ?_
      refine x_aload_n (M := mJ2_fastRemove) (pc := 35) dJ2_fastRemove_35 rfl ?_
      refine x_iload_n (M := mJ2_fastRemove) (pc := 36) dJ2_fastRemove_36 rfl ?_
      refine x_dup_x1 (M := mJ2_fastRemove) (pc := 37) dJ2_fastRemove_37 ?_
      first | refine x_put2' (M := mJ2_fastRemove) (pc := 38) kcJ2 q192 dJ2_fastRemove_38 ?_ | refine x_put2 (M := mJ2_fastRemove) (pc := 38) kcJ2 q192 dJ2_fastRemove_38 (by first | assumption | exact xu_s _ _ _ | exact (xu_n (by first | assumption | exact Ne.symm (by assumption) | exact xu_fresh (by assumption) (by assumption) | exact (xu_fresh (by assumption) (by assumption)).symm)).trans (by first | assumption | exact xu_s _ _ _ | exact (xu_n (by first | assumption | exact Ne.symm (by assumption) | exact xu_fresh (by assumption) (by assumption) | exact (xu_fresh (by assumption) (by assumption)).symm)).trans (by first | assumption | exact xu_s _ _ _ | exact (xu_n (by first | assumption | exact Ne.symm (by assumption) | exact xu_fresh (by assumption) (by assumption) | exact (xu_fresh (by assumption) (by assumption)).symm)).trans (by first | assumption | exact xu_s _ _ _)))) ?_
      refine x_null (M := mJ2_fastRemove) (pc := 41) dJ2_fastRemove_41 ?_
      refine x_aastZ (M := mJ2_fastRemove) (pc := 42) _ dJ2_fastRemove_42 (by first | assumption | exact xu_s _ _ _ | exact (xu_n (by first | assumption | exact Ne.symm (by assumption) | exact xu_fresh (by assumption) (by assumption) | exact (xu_fresh (by assumption) (by assumption)).symm)).trans (by first | assumption | exact xu_s _ _ _ | exact (xu_n (by first | assumption | exact Ne.symm (by assumption) | exact xu_fresh (by assumption) (by assumption) | exact (xu_fresh (by assumption) (by assumption)).symm)).trans (by first | assumption | exact xu_s _ _ _ | exact (xu_n (by first | assumption | exact Ne.symm (by assumption) | exact xu_fresh (by assumption) (by assumption) | exact (xu_fresh (by assumption) (by assumption)).symm)).trans (by first | assumption | exact xu_s _ _ _)))) (by first | rfl | assumption) (by first | assumption | omega) (by first | decide | omega) ?_
      refine x_vret (M := mJ2_fastRemove) (pc := 43) dJ2_fastRemove_43 rfl (by first | exact Nat.le_of_ble_eq_true rfl | omega) (by first | exact Nat.le_of_ble_eq_true rfl | omega) ?_
      refine ⟨rfl, fin (va_cpy f f (i + 1) i (xs.length - 1 - i)) (fun k hk => ?_) (fun k hk hc => ?_) _ ((xu_n (Ne.symm h4)).trans (xu_s _ _ _)) (xu_s _ _ _), fun b e n1 n2 hb => (xu_n n2).trans ((xu_n n1).trans ((xu_n n2).trans ((xu_n n1).trans hb)))⟩
      · rw [eraseIdx_getD]; unfold va_cpy
        by_cases q : k < i
        · rw [if_pos q, if_neg (by omega)]; exact h3 k (by omega)
        · rw [if_neg q, if_pos (by omega), show i + 1 + (k - i) = k + 1 by omega]; exact h3 (k + 1) (by omega)
      · unfold va_cpy; rw [if_neg (by omega)]; exact hf k hk hc
theorem j_remove (h : xH) (a arr i d : Nat) (xs : List Nat) (hd : 2 ≤ d) (hA : AL g h a arr xs) (hel : ∀ y ∈ xs, xOb g h y) (hi : i < xs.length) : Ct g l mJ2_remove d 0 0 [.ref a, .int (nI i)] h (fun o h' => (∃ v, o = .inl (some v)) ∧ AL g h' a arr (xs.eraseIdx i) ∧ xle2 a arr h h') := by
  obtain ⟨mcn, cap, f, hA⟩ := hA
  obtain ⟨ha, hO, h1, h2, h3, hf, h4, h5⟩ := hA
  have hb : h arr = some (.inl (xdA g 3, cap, .inr (.inr (.inr (.inr f))))) := hO.resolve_right (fun q => by omega)
  have hv : va_rf (f i) = .ref (xs.getD i 0) := by rw [h3 i hi]; rfl
  refine Ct.of [some (.ref a), some (.int (nI i)), none, none] (by decide +kernel) rfl (Nat.le_of_ble_eq_true rfl) rfl rfl ?_
  refine x_iload_n (M := mJ2_remove) (pc := 0) dJ2_remove_0 rfl ?_
  refine x_aload_n (M := mJ2_remove) (pc := 1) dJ2_remove_1 rfl ?_
  refine x_get (M := mJ2_remove) (pc := 2) kcJ2 2 rfl q192 dJ2_remove_2 (by first | assumption | exact xu_s _ _ _ | exact (xu_n (by first | assumption | exact Ne.symm (by assumption) | exact xu_fresh (by assumption) (by assumption) | exact (xu_fresh (by assumption) (by assumption)).symm)).trans (by first | assumption | exact xu_s _ _ _ | exact (xu_n (by first | assumption | exact Ne.symm (by assumption) | exact xu_fresh (by assumption) (by assumption) | exact (xu_fresh (by assumption) (by assumption)).symm)).trans (by first | assumption | exact xu_s _ _ _ | exact (xu_n (by first | assumption | exact Ne.symm (by assumption) | exact xu_fresh (by assumption) (by assumption) | exact (xu_fresh (by assumption) (by assumption)).symm)).trans (by first | assumption | exact xu_s _ _ _)))) rfl ?_
  refine x_S2 (M := mJ2_remove) (pc := 5) (M' := mJ23_checkIndex) q1167 kSJ23_checkIndex dJ2_remove_5 (j_chk h i xs.length (d - 1) (by omega) hi (by omega)) (fun v_ h hq_ => ?_)
  obtain ⟨hv_, rfl⟩ := hq_; cases hv_
  refine x_pop (M := mJ2_remove) (pc := 8) dJ2_remove_8 ?_
  refine x_aload_n (M := mJ2_remove) (pc := 9) dJ2_remove_9 rfl ?_
  refine x_get (M := mJ2_remove) (pc := 10) kcJ2 1 rfl q189 dJ2_remove_10 (by first | assumption | exact xu_s _ _ _ | exact (xu_n (by first | assumption | exact Ne.symm (by assumption) | exact xu_fresh (by assumption) (by assumption) | exact (xu_fresh (by assumption) (by assumption)).symm)).trans (by first | assumption | exact xu_s _ _ _ | exact (xu_n (by first | assumption | exact Ne.symm (by assumption) | exact xu_fresh (by assumption) (by assumption) | exact (xu_fresh (by assumption) (by assumption)).symm)).trans (by first | assumption | exact xu_s _ _ _ | exact (xu_n (by first | assumption | exact Ne.symm (by assumption) | exact xu_fresh (by assumption) (by assumption) | exact (xu_fresh (by assumption) (by assumption)).symm)).trans (by first | assumption | exact xu_s _ _ _)))) rfl ?_
  refine x_astore2 (M := mJ2_remove) (pc := 13) dJ2_remove_13 ?_
  refine x_aload_n (M := mJ2_remove) (pc := 14) dJ2_remove_14 rfl ?_
  refine x_iload_n (M := mJ2_remove) (pc := 15) dJ2_remove_15 rfl ?_
  refine x_aaldN (M := mJ2_remove) (pc := 16) _ dJ2_remove_16 (by first | assumption | exact xu_s _ _ _ | exact (xu_n (by first | assumption | exact Ne.symm (by assumption) | exact xu_fresh (by assumption) (by assumption) | exact (xu_fresh (by assumption) (by assumption)).symm)).trans (by first | assumption | exact xu_s _ _ _ | exact (xu_n (by first | assumption | exact Ne.symm (by assumption) | exact xu_fresh (by assumption) (by assumption) | exact (xu_fresh (by assumption) (by assumption)).symm)).trans (by first | assumption | exact xu_s _ _ _ | exact (xu_n (by first | assumption | exact Ne.symm (by assumption) | exact xu_fresh (by assumption) (by assumption) | exact (xu_fresh (by assumption) (by assumption)).symm)).trans (by first | assumption | exact xu_s _ _ _)))) (by first | rfl | assumption) (by first | assumption | omega) (by first | decide | omega) (hv) ?_
  refine x_astore3 (M := mJ2_remove) (pc := 17) dJ2_remove_17 ?_
  refine x_aload_n (M := mJ2_remove) (pc := 18) dJ2_remove_18 rfl ?_
  refine x_aload_n (M := mJ2_remove) (pc := 19) dJ2_remove_19 rfl ?_
  refine x_iload_n (M := mJ2_remove) (pc := 20) dJ2_remove_20 rfl ?_
  refine x_V2 (M := mJ2_remove) (pc := 21) (M' := mJ2_fastRemove) q1312 kVJ2_fastRemove dJ2_remove_21 (j_fastRemove h a arr cap i (d - 1) mcn f xs (by omega) ⟨ha, hO, h1, h2, h3, hf, h4, h5⟩ hel hi) (xIs.of kcJ2 ha) (fun v_ h hq_ => ?_)
  obtain ⟨hv_, w1, w2⟩ := hq_; cases hv_
  refine x_aload_n (M := mJ2_remove) (pc := 24) dJ2_remove_24 rfl ?_
  refine x_aret (M := mJ2_remove) (pc := 25) dJ2_remove_25 rfl (by first | exact Or.inl ⟨_, rfl⟩ | exact Or.inr ⟨_, rfl⟩) (by first | exact Nat.le_of_ble_eq_true rfl | omega) (by first | exact Nat.le_of_ble_eq_true rfl | omega) ?_
  exact ⟨⟨_, rfl⟩, w1, w2⟩
/-- an iterator of the list a, k elements on -/
def ITR (h : xH) (it a : Nat) (mcn : Int32) (k : Nat) : Prop := ∃ lr : Int32, h it = some (.inr (32, [.int (nI k), .int lr, .int mcn, .ref a]))
theorem j_itInit (h : xH) (it a d : Nat) (mcn : Int32) (v1 v2 v3 : Value) (vs : List Value) (hd : 1 ≤ d) (hi : h it = some (.inr (32, [.int (nI 0), v1, v2, v3]))) (ha : h a = some (.inr (28, .int mcn :: vs))) (hvs : vs.length = 2) (hne : a ≠ it) : Ct g l mJ14_init d 0 0 [.ref it, .ref a] h (fun o h' => o = .inl none ∧ ITR h' it a mcn 0 ∧ xle1 it h h') := by
  obtain ⟨w1, w2, rfl⟩ : ∃ w1 w2, vs = [w1, w2] := by
    match vs, hvs with
    | [w1, w2], _ => exact ⟨w1, w2, rfl⟩
  refine Ct.of [some (.ref it), some (.ref a)] (by decide +kernel) rfl (Nat.le_of_ble_eq_true rfl) rfl rfl ?_
  refine x_aload_n (M := mJ14_init) (pc := 0) dJ14_init_0 rfl ?_
  refine x_aload_n (M := mJ14_init) (pc := 1) dJ14_init_1 rfl ?_
  first | refine x_putF3' (M := mJ14_init) (pc := 2) kcJ14 q828 dJ14_init_2 ?_ | refine x_putF3 (M := mJ14_init) (pc := 2) kcJ14 q828 dJ14_init_2 (by first | assumption | exact xu_s _ _ _ | exact (xu_n (by first | assumption | exact Ne.symm (by assumption) | exact xu_fresh (by assumption) (by assumption) | exact (xu_fresh (by assumption) (by assumption)).symm)).trans (by first | assumption | exact xu_s _ _ _ | exact (xu_n (by first | assumption | exact Ne.symm (by assumption) | exact xu_fresh (by assumption) (by assumption) | exact (xu_fresh (by assumption) (by assumption)).symm)).trans (by first | assumption | exact xu_s _ _ _ | exact (xu_n (by first | assumption | exact Ne.symm (by assumption) | exact xu_fresh (by assumption) (by assumption) | exact (xu_fresh (by assumption) (by assumption)).symm)).trans (by first | assumption | exact xu_s _ _ _)))) ?_
  refine x_aload_n (M := mJ14_init) (pc := 5) dJ14_init_5 rfl ?_
  refine x_objInit (M := mJ14_init) (pc := 6) q824 dJ14_init_6 (by first | exact Nat.le_of_ble_eq_true rfl | omega) (by first | exact Nat.le_of_ble_eq_true rfl | (simp [xcat_rf, Value.category])) ?_
  refine x_aload_n (M := mJ14_init) (pc := 9) dJ14_init_9 rfl ?_
  refine x_iconst (M := mJ14_init) (pc := 10) (v := (-1)) dJ14_init_10 (by decide) ?_
  first | refine x_put1' (M := mJ14_init) (pc := 11) kcJ14 q826 dJ14_init_11 ?_ | refine x_put1 (M := mJ14_init) (pc := 11) kcJ14 q826 dJ14_init_11 (by first | assumption | exact xu_s _ _ _ | exact (xu_n (by first | assumption | exact Ne.symm (by assumption) | exact xu_fresh (by assumption) (by assumption) | exact (xu_fresh (by assumption) (by assumption)).symm)).trans (by first | assumption | exact xu_s _ _ _ | exact (xu_n (by first | assumption | exact Ne.symm (by assumption) | exact xu_fresh (by assumption) (by assumption) | exact (xu_fresh (by assumption) (by assumption)).symm)).trans (by first | assumption | exact xu_s _ _ _ | exact (xu_n (by first | assumption | exact Ne.symm (by assumption) | exact xu_fresh (by assumption) (by assumption) | exact (xu_fresh (by assumption) (by assumption)).symm)).trans (by first | assumption | exact xu_s _ _ _)))) ?_
  refine x_aload_n (M := mJ14_init) (pc := 14) dJ14_init_14 rfl ?_
  refine x_aload_n (M := mJ14_init) (pc := 15) dJ14_init_15 rfl ?_
  refine x_get (M := mJ14_init) (pc := 16) kcJ14 3 rfl q828 dJ14_init_16 (by first | assumption | exact xu_s _ _ _ | exact (xu_n (by first | assumption | exact Ne.symm (by assumption) | exact xu_fresh (by assumption) (by assumption) | exact (xu_fresh (by assumption) (by assumption)).symm)).trans (by first | assumption | exact xu_s _ _ _ | exact (xu_n (by first | assumption | exact Ne.symm (by assumption) | exact xu_fresh (by assumption) (by assumption) | exact (xu_fresh (by assumption) (by assumption)).symm)).trans (by first | assumption | exact xu_s _ _ _ | exact (xu_n (by first | assumption | exact Ne.symm (by assumption) | exact xu_fresh (by assumption) (by assumption) | exact (xu_fresh (by assumption) (by assumption)).symm)).trans (by first | assumption | exact xu_s _ _ _)))) rfl ?_
  refine x_getS (M := mJ14_init) (pc := 19) kcJ2 0 rfl q194 q195 dJ14_init_19 (by first | assumption | exact xu_s _ _ _ | exact (xu_n (by first | assumption | exact Ne.symm (by assumption) | exact xu_fresh (by assumption) (by assumption) | exact (xu_fresh (by assumption) (by assumption)).symm)).trans (by first | assumption | exact xu_s _ _ _ | exact (xu_n (by first | assumption | exact Ne.symm (by assumption) | exact xu_fresh (by assumption) (by assumption) | exact (xu_fresh (by assumption) (by assumption)).symm)).trans (by first | assumption | exact xu_s _ _ _ | exact (xu_n (by first | assumption | exact Ne.symm (by assumption) | exact xu_fresh (by assumption) (by assumption) | exact (xu_fresh (by assumption) (by assumption)).symm)).trans (by first | assumption | exact xu_s _ _ _)))) rfl ?_
  first | refine x_put2' (M := mJ14_init) (pc := 22) kcJ14 q827 dJ14_init_22 ?_ | refine x_put2 (M := mJ14_init) (pc := 22) kcJ14 q827 dJ14_init_22 (by first | assumption | exact xu_s _ _ _ | exact (xu_n (by first | assumption | exact Ne.symm (by assumption) | exact xu_fresh (by assumption) (by assumption) | exact (xu_fresh (by assumption) (by assumption)).symm)).trans (by first | assumption | exact xu_s _ _ _ | exact (xu_n (by first | assumption | exact Ne.symm (by assumption) | exact xu_fresh (by assumption) (by assumption) | exact (xu_fresh (by assumption) (by assumption)).symm)).trans (by first | assumption | exact xu_s _ _ _ | exact (xu_n (by first | assumption | exact Ne.symm (by assumption) | exact xu_fresh (by assumption) (by assumption) | exact (xu_fresh (by assumption) (by assumption)).symm)).trans (by first | assumption | exact xu_s _ _ _)))) ?_
  refine x_vret (M := mJ14_init) (pc := 25) dJ14_init_25 rfl (by first | exact Nat.le_of_ble_eq_true rfl | omega) (by first | exact Nat.le_of_ble_eq_true rfl | omega) ?_
  exact ⟨rfl, ⟨_, xu_s _ _ _⟩, fun b e n1 hb => (xu_n n1).trans hb⟩
end JDKAL2

/-! ArrayList.add, its room counted -/
section ALC
set_option maxRecDepth 100000
variable {g : xG} {l : Launch} {h h0 h' : xH}
def gr (cap : Nat) : Nat := if cap = 0 then 10 else cap + max 1 (cap / 2)
theorem j_growC (h : xH) (a arr cap d : Nat) (mcn : Int32) (f : Nat → Option Nat) (xs : List Nat) (hd : 4 ≤ d) (hA : AL0 g h a mcn arr cap f xs) (hel : ∀ y ∈ xs, xOb g h y) (hm2 : cap < 2 ^ 14) : Ct g l mJ2_grow d 1 (gr cap) [.ref a, .int (nI (cap + 1))] h (fun o h' => ∃ q f', o = .inl (some (.ref q)) ∧ h q = none ∧ (∀ i, i < xs.length → f' i = some (xs.getD i 0)) ∧ (∀ i, xs.length ≤ i → f' i = none) ∧ h' = xu (xu h q (.inl (xdA g 3, gr cap, .inr (.inr (.inr (.inr f')))))) a (.inr (28, [.int mcn, .ref q, .int (nI xs.length)]))) := by
  obtain ⟨ha, hO, h1, h2, h3, hf, h4, h5⟩ := hA
  refine Ct.of [some (.ref a), some (.int (nI (cap + 1))), none, none] (by decide +kernel) rfl (Nat.le_of_ble_eq_true rfl) rfl rfl ?_
  refine x_aload_n (M := mJ2_grow) (pc := 0) dJ2_grow_0 rfl ?_
  refine x_get (M := mJ2_grow) (pc := 1) kcJ2 1 rfl q189 dJ2_grow_1 (by first | assumption | exact xu_s _ _ _ | exact (xu_n (by first | assumption | exact Ne.symm (by assumption) | exact xu_fresh (by assumption) (by assumption) | exact (xu_fresh (by assumption) (by assumption)).symm)).trans (by first | assumption | exact xu_s _ _ _ | exact (xu_n (by first | assumption | exact Ne.symm (by assumption) | exact xu_fresh (by assumption) (by assumption) | exact (xu_fresh (by assumption) (by assumption)).symm)).trans (by first | assumption | exact xu_s _ _ _ | exact (xu_n (by first | assumption | exact Ne.symm (by assumption) | exact xu_fresh (by assumption) (by assumption) | exact (xu_fresh (by assumption) (by assumption)).symm)).trans (by first | assumption | exact xu_s _ _ _)))) rfl ?_
  refine x_alenO (M := mJ2_grow) (pc := 4) dJ2_grow_4 hO ?_
  refine x_istore2 (M := mJ2_grow) (pc := 5) dJ2_grow_5 ?_
  refine x_iload_n (M := mJ2_grow) (pc := 6) dJ2_grow_6 rfl ?_
  first | with_reducible refine x_if_gtN (M := mJ2_grow) (pc := 7) 20 dJ2_grow_7 (by decide) (by omega) (fun c7 => ?_) (fun c7 => ?_) | refine x_if_gt (M := mJ2_grow) (pc := 7) 20 dJ2_grow_7 (by decide) (fun c7 => ?_) (fun c7 => ?_)
  · have e : cap + max (cap + 1 - cap) (cap / 2 ^ 1) = gr cap := by unfold gr; rw [if_neg (by omega)]; omega
    refine x_iload_n (M := mJ2_grow) (pc := 20) dJ2_grow_20 rfl ?_
    refine x_iload_n (M := mJ2_grow) (pc := 21) dJ2_grow_21 rfl ?_
    refine x_iload_n (M := mJ2_grow) (pc := 22) dJ2_grow_22 rfl ?_
    first | with_reducible refine x_isubN (M := mJ2_grow) (pc := 23) dJ2_grow_23 (by omega) ?_ | refine x_isub (M := mJ2_grow) (pc := 23) dJ2_grow_23 ?_
    refine x_iload_n (M := mJ2_grow) (pc := 24) dJ2_grow_24 rfl ?_
    refine x_iconst (M := mJ2_grow) (pc := 25) (v := nI 1) dJ2_grow_25 (by decide) ?_
    refine x_ishr (M := mJ2_grow) (pc := 26) dJ2_grow_26 ?_
    refine x_val (M := mJ2_grow) (pc := 27) (nI_shr (by omega) (by omega)) ?_
    refine x_S3 (M := mJ2_grow) (pc := 27) (M' := mJ22_newLength) q1049 kSJ22_newLength dJ2_grow_27 (j_newLength h cap (cap + 1 - cap) (cap / 2 ^ 1) (d - 1) (by omega) (by omega) (by omega) (by omega) (by omega)) (fun v_ h hq_ => ?_)
    obtain ⟨hv_, rfl⟩ := hq_; cases hv_
    skip
    rw [e]
    have hg : gr cap < 2 ^ 20 := by omega
    have hg2 : cap < gr cap := by omega
    refine x_istore3 (M := mJ2_grow) (pc := 30) dJ2_grow_30 ?_
    refine x_aload_n (M := mJ2_grow) (pc := 31) dJ2_grow_31 rfl ?_
    refine x_aload_n (M := mJ2_grow) (pc := 32) dJ2_grow_32 rfl ?_
    refine x_get (M := mJ2_grow) (pc := 33) kcJ2 1 rfl q189 dJ2_grow_33 (by first | assumption | exact xu_s _ _ _ | exact (xu_n (by first | assumption | exact Ne.symm (by assumption) | exact xu_fresh (by assumption) (by assumption) | exact (xu_fresh (by assumption) (by assumption)).symm)).trans (by first | assumption | exact xu_s _ _ _ | exact (xu_n (by first | assumption | exact Ne.symm (by assumption) | exact xu_fresh (by assumption) (by assumption) | exact (xu_fresh (by assumption) (by assumption)).symm)).trans (by first | assumption | exact xu_s _ _ _ | exact (xu_n (by first | assumption | exact Ne.symm (by assumption) | exact xu_fresh (by assumption) (by assumption) | exact (xu_fresh (by assumption) (by assumption)).symm)).trans (by first | assumption | exact xu_s _ _ _)))) rfl ?_
    refine x_iload_n (M := mJ2_grow) (pc := 36) dJ2_grow_36 rfl ?_
    refine x_S2 (M := mJ2_grow) (pc := 37) (M' := mJ11_copyOf) q691 kSJ11_copyOf dJ2_grow_37 (j_copyOf h arr cap (gr cap) (d - 1) f (by omega) hO (by omega) (by omega) (xOb_el hel h3 hf)) (fun v_ h hq_ => ?_)
    obtain ⟨q, hv_, hq, rfl⟩ := hq_; cases hv_
    refine x_dup_x1 (M := mJ2_grow) (pc := 40) dJ2_grow_40 ?_
    first | refine x_put1' (M := mJ2_grow) (pc := 41) kcJ2 q189 dJ2_grow_41 ?_ | refine x_put1 (M := mJ2_grow) (pc := 41) kcJ2 q189 dJ2_grow_41 (by first | assumption | exact xu_s _ _ _ | exact (xu_n (by first | assumption | exact Ne.symm (by assumption) | exact xu_fresh (by assumption) (by assumption) | exact (xu_fresh (by assumption) (by assumption)).symm)).trans (by first | assumption | exact xu_s _ _ _ | exact (xu_n (by first | assumption | exact Ne.symm (by assumption) | exact xu_fresh (by assumption) (by assumption) | exact (xu_fresh (by assumption) (by assumption)).symm)).trans (by first | assumption | exact xu_s _ _ _ | exact (xu_n (by first | assumption | exact Ne.symm (by assumption) | exact xu_fresh (by assumption) (by assumption) | exact (xu_fresh (by assumption) (by assumption)).symm)).trans (by first | assumption | exact xu_s _ _ _)))) ?_
    refine x_aret (M := mJ2_grow) (pc := 44) dJ2_grow_44 rfl (by first | exact Or.inl ⟨_, rfl⟩ | exact Or.inr ⟨_, rfl⟩) (by first | exact Nat.le_of_ble_eq_true rfl | omega) (by first | exact Nat.le_of_ble_eq_true rfl | omega) ?_
    exact ⟨q, _, rfl, hq, fun i hi => by rw [if_pos (by omega)]; exact h3 i hi, fun i hi => by by_cases z : i < min cap (gr cap); (rw [if_pos z]; exact hf i hi (by omega)); rw [if_neg z], rfl⟩
  · have e : max 10 (cap + 1) = gr cap := by unfold gr; rw [if_pos c7]; omega
    have hg : gr cap = 10 := by unfold gr; rw [if_pos c7]
    refine x_aload_n (M := mJ2_grow) (pc := 10) dJ2_grow_10 rfl ?_
    refine x_get (M := mJ2_grow) (pc := 11) kcJ2 1 rfl q189 dJ2_grow_11 (by first | assumption | exact xu_s _ _ _ | exact (xu_n (by first | assumption | exact Ne.symm (by assumption) | exact xu_fresh (by assumption) (by assumption) | exact (xu_fresh (by assumption) (by assumption)).symm)).trans (by first | assumption | exact xu_s _ _ _ | exact (xu_n (by first | assumption | exact Ne.symm (by assumption) | exact xu_fresh (by assumption) (by assumption) | exact (xu_fresh (by assumption) (by assumption)).symm)).trans (by first | assumption | exact xu_s _ _ _ | exact (xu_n (by first | assumption | exact Ne.symm (by assumption) | exact xu_fresh (by assumption) (by assumption) | exact (xu_fresh (by assumption) (by assumption)).symm)).trans (by first | assumption | exact xu_s _ _ _)))) rfl ?_
    refine x_gets (M := mJ2_grow) (pc := 14) 0 q187 dJ2_grow_14 rfl ?_
    refine x_acmp_eq (M := mJ2_grow) (pc := 17) (some arr) (some (xca g 0 0)) 45 dJ2_grow_17 (by decide) rfl rfl (fun _ => ?_) (fun c => absurd (by rw [h5 c7]) c)
    have e0 : xs.length = 0 := by omega
    refine x_aload_n (M := mJ2_grow) (pc := 45) dJ2_grow_45 rfl ?_
    refine x_bipush (M := mJ2_grow) (pc := 46) (v := nI 10) dJ2_grow_46 (by decide) ?_
    refine x_iload_n (M := mJ2_grow) (pc := 48) dJ2_grow_48 rfl ?_
    refine x_mmax (M := mJ2_grow) (pc := 49) q1050 dJ2_grow_49 (by omega) (by omega) (by first | assumption | omega) (by first | exact Nat.le_of_ble_eq_true rfl | omega) (by first | exact Nat.le_of_ble_eq_true rfl | omega) (by first | exact Nat.le_of_ble_eq_true rfl | (simp [xcat_rf, Value.category])) ?_
    skip
    rw [e]
    refine x_anew (M := mJ2_grow) (pc := 52) 3 _ q1051 q323 dJ2_grow_52 (by first | rfl | assumption) (by first | exact Nat.le_of_ble_eq_true rfl | omega) (by first | exact Nat.le_of_ble_eq_true rfl | omega) (by first | exact Nat.le_of_ble_eq_true rfl | omega) (fun q52_ hq52_ hb52_ => ?_)
    (try simp only [xu_noneI] at hq52_)
    repeat (obtain ⟨_, hq52_⟩ : _ ∧ _ := hq52_)
    refine x_dup_x1 (M := mJ2_grow) (pc := 55) dJ2_grow_55 ?_
    first | refine x_put1' (M := mJ2_grow) (pc := 56) kcJ2 q189 dJ2_grow_56 ?_ | refine x_put1 (M := mJ2_grow) (pc := 56) kcJ2 q189 dJ2_grow_56 (by first | assumption | exact xu_s _ _ _ | exact (xu_n (by first | assumption | exact Ne.symm (by assumption) | exact xu_fresh (by assumption) (by assumption) | exact (xu_fresh (by assumption) (by assumption)).symm)).trans (by first | assumption | exact xu_s _ _ _ | exact (xu_n (by first | assumption | exact Ne.symm (by assumption) | exact xu_fresh (by assumption) (by assumption) | exact (xu_fresh (by assumption) (by assumption)).symm)).trans (by first | assumption | exact xu_s _ _ _ | exact (xu_n (by first | assumption | exact Ne.symm (by assumption) | exact xu_fresh (by assumption) (by assumption) | exact (xu_fresh (by assumption) (by assumption)).symm)).trans (by first | assumption | exact xu_s _ _ _)))) ?_
    refine x_aret (M := mJ2_grow) (pc := 59) dJ2_grow_59 rfl (by first | exact Or.inl ⟨_, rfl⟩ | exact Or.inr ⟨_, rfl⟩) (by first | exact Nat.le_of_ble_eq_true rfl | omega) (by first | exact Nat.le_of_ble_eq_true rfl | omega) ?_
    exact ⟨q52_, _, rfl, hq52_, fun i hi => by omega, fun i hi => rfl, rfl⟩
theorem j_grow2C (h : xH) (a arr cap d : Nat) (mcn : Int32) (f : Nat → Option Nat) (xs : List Nat) (hd : 5 ≤ d) (hA : AL0 g h a mcn arr cap f xs) (hel : ∀ y ∈ xs, xOb g h y) (hm : cap = xs.length) (hm2 : cap < 2 ^ 14) : Ct g l mJ2_grow_2 d 1 (gr cap) [.ref a] h (fun o h' => ∃ q f', o = .inl (some (.ref q)) ∧ h q = none ∧ (∀ i, i < xs.length → f' i = some (xs.getD i 0)) ∧ (∀ i, xs.length ≤ i → f' i = none) ∧ h' = xu (xu h q (.inl (xdA g 3, gr cap, .inr (.inr (.inr (.inr f')))))) a (.inr (28, [.int mcn, .ref q, .int (nI xs.length)]))) := by
  have ha := hA.1
  rw [← hm] at ha
  refine Ct.of [some (.ref a)] (by decide +kernel) rfl (Nat.le_of_ble_eq_true rfl) rfl rfl ?_
  refine x_aload_n (M := mJ2_grow_2) (pc := 0) dJ2_grow_2_0 rfl ?_
  refine x_aload_n (M := mJ2_grow_2) (pc := 1) dJ2_grow_2_1 rfl ?_
  refine x_get (M := mJ2_grow_2) (pc := 2) kcJ2 2 rfl q192 dJ2_grow_2_2 (by first | assumption | exact xu_s _ _ _ | exact (xu_n (by first | assumption | exact Ne.symm (by assumption) | exact xu_fresh (by assumption) (by assumption) | exact (xu_fresh (by assumption) (by assumption)).symm)).trans (by first | assumption | exact xu_s _ _ _ | exact (xu_n (by first | assumption | exact Ne.symm (by assumption) | exact xu_fresh (by assumption) (by assumption) | exact (xu_fresh (by assumption) (by assumption)).symm)).trans (by first | assumption | exact xu_s _ _ _ | exact (xu_n (by first | assumption | exact Ne.symm (by assumption) | exact xu_fresh (by assumption) (by assumption) | exact (xu_fresh (by assumption) (by assumption)).symm)).trans (by first | assumption | exact xu_s _ _ _)))) rfl ?_
  refine x_iconst (M := mJ2_grow_2) (pc := 5) (v := nI 1) dJ2_grow_2_5 (by decide) ?_
  first | with_reducible refine x_iaddN (M := mJ2_grow_2) (pc := 6) dJ2_grow_2_6 ?_ | refine x_iadd (M := mJ2_grow_2) (pc := 6) dJ2_grow_2_6 ?_
  refine x_V1 (M := mJ2_grow_2) (pc := 7) (M' := mJ2_grow) q1045 kVJ2_grow dJ2_grow_2_7 (j_growC h a arr cap (d - 1) mcn f xs (by omega) hA hel (by omega)) (xIs.of kcJ2 (by first | assumption | exact xu_s _ _ _ | exact (xu_n (by first | assumption | exact Ne.symm (by assumption) | exact xu_fresh (by assumption) (by assumption) | exact (xu_fresh (by assumption) (by assumption)).symm)).trans (by first | assumption | exact xu_s _ _ _ | exact (xu_n (by first | assumption | exact Ne.symm (by assumption) | exact xu_fresh (by assumption) (by assumption) | exact (xu_fresh (by assumption) (by assumption)).symm)).trans (by first | assumption | exact xu_s _ _ _ | exact (xu_n (by first | assumption | exact Ne.symm (by assumption) | exact xu_fresh (by assumption) (by assumption) | exact (xu_fresh (by assumption) (by assumption)).symm)).trans (by first | assumption | exact xu_s _ _ _))))) (fun v_ h hq_ => ?_)
  obtain ⟨q, f', hv_, hq⟩ := hq_; cases hv_
  refine x_aret (M := mJ2_grow_2) (pc := 10) dJ2_grow_2_10 rfl (by first | exact Or.inl ⟨_, rfl⟩ | exact Or.inr ⟨_, rfl⟩) (by first | exact Nat.le_of_ble_eq_true rfl | omega) (by first | exact Nat.le_of_ble_eq_true rfl | omega) ?_
  exact ⟨q, f', rfl, hq⟩
/-- a list whose array has cap places -/
def ALC (g : xG) (h : xH) (a arr cap : Nat) (xs : List Nat) : Prop := ∃ mcn f, AL0 g h a mcn arr cap f xs
theorem ALC.al {a arr cap : Nat} {xs : List Nat} (hA : ALC g h a arr cap xs) : AL g h a arr xs := by
  obtain ⟨m, f, q⟩ := hA; exact ⟨m, cap, f, q⟩
def grC (n cap : Nat) : Nat := if n < cap then 0 else 1
def grS (n cap : Nat) : Nat := if n < cap then 0 else gr cap
def grN (n cap : Nat) : Nat := if n < cap then cap else gr cap
theorem gr_gt (cap : Nat) : cap < gr cap := by unfold gr; split <;> omega
theorem gr_le (cap : Nat) : gr cap ≤ 2 * cap + 10 := by unfold gr; split <;> omega
theorem j_add2C (h : xH) (a arr cap d v : Nat) (mcn : Int32) (f : Nat → Option Nat) (xs : List Nat) (hd : 6 ≤ d) (hA : AL0 g h a mcn arr cap f xs) (hv : xOb g h v) (hel : ∀ y ∈ xs, xOb g h y) (hl : xs.length < 2 ^ 14) : Ct g l mJ2_add_2 d (grC xs.length cap) (grS xs.length cap) [.ref a, .ref v, .ref arr, .int (nI xs.length)] h (fun o h' => o = .inl none ∧ ∃ arr', ALC g h' a arr' (grN xs.length cap) (xs ++ [v]) ∧ xle2 a arr h h' ∧ (arr' = arr ∨ h arr' = none)) := by
  have ha := hA.1
  have hO := hA.2.1
  have hcap := hA.2.2.2.1
  have hlc := hA.2.2.1
  refine Ct.of [some (.ref a), some (.ref v), some (.ref arr), some (.int (nI xs.length))] (by decide +kernel) rfl (Nat.le_of_ble_eq_true rfl) rfl rfl ?_
  refine x_iload_n (M := mJ2_add_2) (pc := 0) dJ2_add_2_0 rfl ?_
  refine x_aload_n (M := mJ2_add_2) (pc := 1) dJ2_add_2_1 rfl ?_
  refine x_alenO (M := mJ2_add_2) (pc := 2) dJ2_add_2_2 hO ?_
  first | with_reducible refine x_icmp_neN (M := mJ2_add_2) (pc := 3) 11 dJ2_add_2_3 (by decide) (by omega) (by omega) (fun c3 => ?_) (fun c3 => ?_) | refine x_icmp_ne (M := mJ2_add_2) (pc := 3) 11 dJ2_add_2_3 (by decide) (fun c3 => ?_) (fun c3 => ?_)
  · have hlt : xs.length < cap := by omega
    rw [grN, if_pos hlt]
    refine j_add2t h a arr cap d _ _ 0 0 v mcn f xs hA hlt hv (by omega) (by omega) _ (fun hN => ⟨rfl, arr, ⟨_, _, hN⟩, fun b e n1 n2 hb => (xu_n n1).trans ((xu_n n2).trans hb), Or.inl rfl⟩)
  · have hnl : ¬ xs.length < cap := by omega
    rw [grN, if_neg hnl, grC, if_neg hnl, grS, if_neg hnl]
    have hgt := gr_gt cap
    have hgl := gr_le cap
    refine x_aload_n (M := mJ2_add_2) (pc := 6) dJ2_add_2_6 rfl ?_
    refine x_V0 (M := mJ2_add_2) (pc := 7) (M' := mJ2_grow_2) q1113 kVJ2_grow_2 dJ2_add_2_7 (j_grow2C h a arr cap (d - 1) mcn f xs (by omega) hA hel c3.symm (by omega)) (hA.is) (fun v_ h hq_ => ?_)
    obtain ⟨q, f', hv_, hq, w3, w4, rfl⟩ := hq_; cases hv_
    refine x_astore2 (M := mJ2_add_2) (pc := 10) dJ2_add_2_10 ?_
    skip
    have hqa : q ≠ a := fun e => by rw [e, ha] at hq; cases hq
    have hA' : AL0 g (xu (xu h q (.inl (xdA g 3, gr cap, .inr (.inr (.inr (.inr f')))))) a (.inr (28, [.int mcn, .ref q, .int (nI xs.length)]))) a mcn q (gr cap) f' xs := ⟨xu_s _ _ _, Or.inl ((xu_n hqa).trans (xu_s _ _ _)), by omega, by omega, w3, fun i hi _ => w4 i hi, hqa, fun z => by omega⟩
    have hle : ∀ b e, b ≠ a → h b = some e → (xu (xu h q (.inl (xdA g 3, gr cap, .inr (.inr (.inr (.inr f')))))) a (.inr (28, [.int mcn, .ref q, .int (nI xs.length)]))) b = some e := fun b e n1 hb => (xu_n n1).trans ((xu_n (fun z => by rw [z, hq] at hb; cases hb)).trans hb)
    have hv' : xOb g (xu (xu h q (.inl (xdA g 3, gr cap, .inr (.inr (.inr (.inr f')))))) a (.inr (28, [.int mcn, .ref q, .int (nI xs.length)]))) v := by
      obtain ⟨C, hv1, hv2⟩ := hv
      refine ⟨C, ?_, hv2⟩
      rcases hv1 with ⟨ci, fs, r, z1, z2, z3⟩ | z
      · by_cases e : v = a
        · subst e; rw [ha] at z1; cases z1; exact Or.inl ⟨28, _, r, xu_s _ _ _, z2, z3⟩
        · exact Or.inl ⟨ci, fs, r, hle _ _ e z1, z2, z3⟩
      · exact Or.inr z
    refine j_add2t _ a q (gr cap) d _ _ _ _ v mcn f' xs hA' (by omega) hv' (by omega) (by omega) _ (fun hN => ⟨rfl, q, ⟨_, _, hN⟩, fun b e n1 n2 hb => ?_, Or.inr hq⟩)
    exact (xu_n n1).trans ((xu_n (fun z => by rw [z, hq] at hb; cases hb)).trans (hle b e n1 hb))
theorem j_addC (h : xH) (a arr cap d v : Nat) (xs : List Nat) (hd : 7 ≤ d) (hA : ALC g h a arr cap xs) (hv : xOb g h v) (hel : ∀ y ∈ xs, xOb g h y) (hl : xs.length < 2 ^ 14) : Ct g l mJ2_add d (grC xs.length cap) (grS xs.length cap) [.ref a, .ref v] h (fun o h' => o = .inl (some (.int (nI 1))) ∧ ∃ arr', ALC g h' a arr' (grN xs.length cap) (xs ++ [v]) ∧ xle2 a arr h h' ∧ (arr' = arr ∨ h arr' = none)) := by
  obtain ⟨mcn, f, hA⟩ := hA
  have ha := hA.1
  refine Ct.of [some (.ref a), some (.ref v)] (by decide +kernel) rfl (Nat.le_of_ble_eq_true rfl) rfl rfl ?_
  refine x_aload_n (M := mJ2_add) (pc := 0) dJ2_add_0 rfl ?_
  refine x_dup (M := mJ2_add) (pc := 1) dJ2_add_1 ?_
  refine x_getS (M := mJ2_add) (pc := 2) kcJ2 0 rfl q196 q195 dJ2_add_2 (by first | assumption | exact xu_s _ _ _ | exact (xu_n (by first | assumption | exact Ne.symm (by assumption) | exact xu_fresh (by assumption) (by assumption) | exact (xu_fresh (by assumption) (by assumption)).symm)).trans (by first | assumption | exact xu_s _ _ _ | exact (xu_n (by first | assumption | exact Ne.symm (by assumption) | exact xu_fresh (by assumption) (by assumption) | exact (xu_fresh (by assumption) (by assumption)).symm)).trans (by first | assumption | exact xu_s _ _ _ | exact (xu_n (by first | assumption | exact Ne.symm (by assumption) | exact xu_fresh (by assumption) (by assumption) | exact (xu_fresh (by assumption) (by assumption)).symm)).trans (by first | assumption | exact xu_s _ _ _)))) rfl ?_
  refine x_iconst (M := mJ2_add) (pc := 5) (v := nI 1) dJ2_add_5 (by decide) ?_
  first | with_reducible refine x_iaddN (M := mJ2_add) (pc := 6) dJ2_add_6 ?_ | refine x_iadd (M := mJ2_add) (pc := 6) dJ2_add_6 ?_
  refine x_GputS (M := mJ2_add) (pc := 7) kcJ2 0 rfl q196 q195 rfl dJ2_add_7 (by first | assumption | exact xu_s _ _ _ | exact (xu_n (by first | assumption | exact Ne.symm (by assumption) | exact xu_fresh (by assumption) (by assumption) | exact (xu_fresh (by assumption) (by assumption)).symm)).trans (by first | assumption | exact xu_s _ _ _ | exact (xu_n (by first | assumption | exact Ne.symm (by assumption) | exact xu_fresh (by assumption) (by assumption) | exact (xu_fresh (by assumption) (by assumption)).symm)).trans (by first | assumption | exact xu_s _ _ _ | exact (xu_n (by first | assumption | exact Ne.symm (by assumption) | exact xu_fresh (by assumption) (by assumption) | exact (xu_fresh (by assumption) (by assumption)).symm)).trans (by first | assumption | exact xu_s _ _ _)))) (by simp) rfl rfl rfl ?_
  refine x_aload_n (M := mJ2_add) (pc := 10) dJ2_add_10 rfl ?_
  refine x_aload_n (M := mJ2_add) (pc := 11) dJ2_add_11 rfl ?_
  refine x_aload_n (M := mJ2_add) (pc := 12) dJ2_add_12 rfl ?_
  refine x_get (M := mJ2_add) (pc := 13) kcJ2 1 rfl q189 dJ2_add_13 (by first | assumption | exact xu_s _ _ _ | exact (xu_n (by first | assumption | exact Ne.symm (by assumption) | exact xu_fresh (by assumption) (by assumption) | exact (xu_fresh (by assumption) (by assumption)).symm)).trans (by first | assumption | exact xu_s _ _ _ | exact (xu_n (by first | assumption | exact Ne.symm (by assumption) | exact xu_fresh (by assumption) (by assumption) | exact (xu_fresh (by assumption) (by assumption)).symm)).trans (by first | assumption | exact xu_s _ _ _ | exact (xu_n (by first | assumption | exact Ne.symm (by assumption) | exact xu_fresh (by assumption) (by assumption) | exact (xu_fresh (by assumption) (by assumption)).symm)).trans (by first | assumption | exact xu_s _ _ _)))) rfl ?_
  refine x_aload_n (M := mJ2_add) (pc := 16) dJ2_add_16 rfl ?_
  refine x_get (M := mJ2_add) (pc := 17) kcJ2 2 rfl q192 dJ2_add_17 (by first | assumption | exact xu_s _ _ _ | exact (xu_n (by first | assumption | exact Ne.symm (by assumption) | exact xu_fresh (by assumption) (by assumption) | exact (xu_fresh (by assumption) (by assumption)).symm)).trans (by first | assumption | exact xu_s _ _ _ | exact (xu_n (by first | assumption | exact Ne.symm (by assumption) | exact xu_fresh (by assumption) (by assumption) | exact (xu_fresh (by assumption) (by assumption)).symm)).trans (by first | assumption | exact xu_s _ _ _ | exact (xu_n (by first | assumption | exact Ne.symm (by assumption) | exact xu_fresh (by assumption) (by assumption) | exact (xu_fresh (by assumption) (by assumption)).symm)).trans (by first | assumption | exact xu_s _ _ _)))) rfl ?_
  refine x_V3 (M := mJ2_add) (pc := 20) (M' := mJ2_add_2) q1109 kVJ2_add_2 dJ2_add_20 (j_add2C _ a arr cap (d - 1) v _ f xs (by omega) (hA.mc _) (hv.upd ha) (fun y hy => (hel y hy).upd ha) hl) ((hA.mc _).is) (fun v_ h hq_ => ?_)
  obtain ⟨hv_, arr', w1, w2, w3⟩ := hq_; cases hv_
  refine x_iconst (M := mJ2_add) (pc := 23) (v := nI 1) dJ2_add_23 (by decide) ?_
  refine x_zret (M := mJ2_add) (pc := 24) dJ2_add_24 rfl (by first | with_reducible exact xz0 | with_reducible exact xz1 | with_reducible exact bI_01 _ | with_reducible assumption | assumption) (by first | exact Nat.le_of_ble_eq_true rfl | omega) (by first | exact Nat.le_of_ble_eq_true rfl | omega) ?_
  refine ⟨rfl, arr', w1, fun b e n1 n2 hb => w2 b e n1 n2 ((xu_n n1).trans hb), ?_⟩
  rcases w3 with rfl | w3
  · exact Or.inl rfl
  · exact Or.inr (xu_none w3).2
end ALC

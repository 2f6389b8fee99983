/-! java.util.ArrayList -/
section JDKAL
set_option maxRecDepth 100000
variable {g : xG} {l : Launch} {h : xH}
/-- an object that an Object[] takes -/
def xOb (g : xG) (h : xH) (y : Nat) : Prop := ∃ C, xIs g h y C ∧ xasg C "java/lang/Object"
theorem xOb.le {h' : xH} {y : Nat} (hl : xle h h') (hy : xOb g h y) : xOb g h' y := by
  obtain ⟨C, h1, h2⟩ := hy; exact ⟨C, h1.le hl, h2⟩
/-- a list: its object at a, its array at arr of cap places -/
def AL0 (g : xG) (h : xH) (a : Nat) (mcn : Int32) (arr cap : Nat) (f : Nat → Option Nat) (xs : List Nat) : Prop :=
  h a = some (.inr (28, [.int mcn, .ref arr, .int (nI xs.length)])) ∧ xOA g h arr cap f ∧ xs.length ≤ cap ∧ cap < 2 ^ 16 ∧ (∀ i, i < xs.length → f i = some (xs.getD i 0)) ∧ (∀ i, xs.length ≤ i → i < cap → f i = none) ∧ arr ≠ a ∧ (cap = 0 → arr = xca g 0 0)
def AL (g : xG) (h : xH) (a arr : Nat) (xs : List Nat) : Prop := ∃ mcn cap f, AL0 g h a mcn arr cap f xs
theorem xOA.upd {a b n : Nat} {f : Nat → Option Nat} {e : va_E} (ha : xOA g h a n f) (hne : a ≠ b) : xOA g (xu h b e) a n f := by
  rcases ha with ha | ⟨rfl, rfl⟩
  · exact Or.inl ((xu_n hne).trans ha)
  · exact Or.inr ⟨rfl, rfl⟩
theorem AL0.mc {a arr cap : Nat} {mcn : Int32} {f : Nat → Option Nat} {xs : List Nat} (hA : AL0 g h a mcn arr cap f xs) (m' : Int32) : AL0 g (xu h a (.inr (28, [.int m', .ref arr, .int (nI xs.length)]))) a m' arr cap f xs :=
  ⟨xu_s _ _ _, hA.2.1.upd hA.2.2.2.2.2.2.1, hA.2.2⟩
theorem AL0.is {a arr cap : Nat} {mcn : Int32} {f : Nat → Option Nat} {xs : List Nat} (hA : AL0 g h a mcn arr cap f xs) : xIs g h a "java/util/ArrayList" := xIs.of kcJ2 hA.1
theorem AL.is {a arr : Nat} {xs : List Nat} (hA : AL g h a arr xs) : xIs g h a "java/util/ArrayList" := by
  obtain ⟨_, _, _, h1⟩ := hA; exact h1.is
theorem AL0.le {h' : xH} {a arr cap : Nat} {mcn : Int32} {f : Nat → Option Nat} {xs : List Nat} (hl : xle h h') (hA : AL0 g h a mcn arr cap f xs) : AL0 g h' a mcn arr cap f xs :=
  ⟨hl _ _ hA.1, hA.2.1.le hl, hA.2.2⟩
theorem AL.le {h' : xH} {a arr : Nat} {xs : List Nat} (hl : xle h h') (hA : AL g h a arr xs) : AL g h' a arr xs := by
  obtain ⟨m, c, f, h1⟩ := hA; exact ⟨m, c, f, h1.le hl⟩
/-- two cells stay: so does the list -/
theorem AL.at {h' : xH} {a arr : Nat} {xs : List Nat} (hA : AL g h a arr xs) (e1 : ∀ e, h a = some e → h' a = some e) (e2 : ∀ e, h arr = some e → h' arr = some e) : AL g h' a arr xs := by
  obtain ⟨m, c, f, h1⟩ := hA
  exact ⟨m, c, f, e1 _ h1.1, h1.2.1.imp (e2 _) id, h1.2.2⟩
theorem j_size (h : xH) (a arr d : Nat) (xs : List Nat) (hA : AL g h a arr xs) : Ct g l mJ2_size d 0 0 [.ref a] h (fun o h' => o = .inl (some (.int (nI xs.length))) ∧ h' = h) := by
  obtain ⟨mcn, cap, f, hA⟩ := hA
  have ha := hA.1
  refine Ct.of [some (.ref a)] (by decide +kernel) rfl (Nat.le_of_ble_eq_true rfl) rfl rfl ?_
  refine x_aload_n (M := mJ2_size) (pc := 0) dJ2_size_0 rfl ?_
  refine x_get (M := mJ2_size) (pc := 1) kcJ2 2 rfl q192 dJ2_size_1 (by first | assumption | exact xu_s _ _ _ | exact (xu_n (by first | assumption | exact Ne.symm (by assumption) | exact xu_fresh (by assumption) (by assumption) | exact (xu_fresh (by assumption) (by assumption)).symm)).trans (by first | assumption | exact xu_s _ _ _ | exact (xu_n (by first | assumption | exact Ne.symm (by assumption) | exact xu_fresh (by assumption) (by assumption) | exact (xu_fresh (by assumption) (by assumption)).symm)).trans (by first | assumption | exact xu_s _ _ _ | exact (xu_n (by first | assumption | exact Ne.symm (by assumption) | exact xu_fresh (by assumption) (by assumption) | exact (xu_fresh (by assumption) (by assumption)).symm)).trans (by first | assumption | exact xu_s _ _ _)))) rfl ?_
  refine x_iret (M := mJ2_size) (pc := 4) dJ2_size_4 rfl (by first | exact Nat.le_of_ble_eq_true rfl | omega) (by first | exact Nat.le_of_ble_eq_true rfl | omega) ?_
  exact ⟨rfl, rfl⟩
theorem j_elementData (h : xH) (a arr d : Nat) (xs : List Nat) (hA : AL g h a arr xs) (i : Nat) (hi : i < xs.length) : Ct g l mJ2_elementData d 0 0 [.ref a, .int (nI i)] h (fun o h' => o = .inl (some (.ref (xs.getD i 0))) ∧ h' = h) := by
  obtain ⟨mcn, cap, f, ha, hO, h1, h2, h3, hf, h4, h5⟩ := hA
  have hb : h arr = some (.inl (xdA g 3, cap, .inr (.inr (.inr (.inr f))))) := hO.resolve_right (fun q => by omega)
  have hv : va_rf (f i) = .ref (xs.getD i 0) := by rw [h3 i hi]; rfl
  refine Ct.of [some (.ref a), some (.int (nI i))] (by decide +kernel) rfl (Nat.le_of_ble_eq_true rfl) rfl rfl ?_
  refine x_aload_n (M := mJ2_elementData) (pc := 0) dJ2_elementData_0 rfl ?_
  refine x_get (M := mJ2_elementData) (pc := 1) kcJ2 1 rfl q189 dJ2_elementData_1 (by first | assumption | exact xu_s _ _ _ | exact (xu_n (by first | assumption | exact Ne.symm (by assumption) | exact xu_fresh (by assumption) (by assumption) | exact (xu_fresh (by assumption) (by assumption)).symm)).trans (by first | assumption | exact xu_s _ _ _ | exact (xu_n (by first | assumption | exact Ne.symm (by assumption) | exact xu_fresh (by assumption) (by assumption) | exact (xu_fresh (by assumption) (by assumption)).symm)).trans (by first | assumption | exact xu_s _ _ _ | exact (xu_n (by first | assumption | exact Ne.symm (by assumption) | exact xu_fresh (by assumption) (by assumption) | exact (xu_fresh (by assumption) (by assumption)).symm)).trans (by first | assumption | exact xu_s _ _ _)))) rfl ?_
  refine x_iload_n (M := mJ2_elementData) (pc := 4) dJ2_elementData_4 rfl ?_
  refine x_aaldN (M := mJ2_elementData) (pc := 5) _ dJ2_elementData_5 (by first | assumption | exact xu_s _ _ _ | exact (xu_n (by first | assumption | exact Ne.symm (by assumption) | exact xu_fresh (by assumption) (by assumption) | exact (xu_fresh (by assumption) (by assumption)).symm)).trans (by first | assumption | exact xu_s _ _ _ | exact (xu_n (by first | assumption | exact Ne.symm (by assumption) | exact xu_fresh (by assumption) (by assumption) | exact (xu_fresh (by assumption) (by assumption)).symm)).trans (by first | assumption | exact xu_s _ _ _ | exact (xu_n (by first | assumption | exact Ne.symm (by assumption) | exact xu_fresh (by assumption) (by assumption) | exact (xu_fresh (by assumption) (by assumption)).symm)).trans (by first | assumption | exact xu_s _ _ _)))) (by first | rfl | assumption) (by first | assumption | omega) (by first | decide | omega) (hv) ?_
  refine x_aret (M := mJ2_elementData) (pc := 6) dJ2_elementData_6 rfl (by first | exact Or.inl ⟨_, rfl⟩ | exact Or.inr ⟨_, rfl⟩) (by first | exact Nat.le_of_ble_eq_true rfl | omega) (by first | exact Nat.le_of_ble_eq_true rfl | omega) ?_
  exact ⟨rfl, rfl⟩
theorem j_get (h : xH) (a arr d : Nat) (hd : 2 ≤ d) (xs : List Nat) (hA : AL g h a arr xs) (hl : xs.length < 2 ^ 16) (i : Nat) (hi : i < xs.length) : Ct g l mJ2_get d 0 0 [.ref a, .int (nI i)] h (fun o h' => o = .inl (some (.ref (xs.getD i 0))) ∧ h' = h) := by
  have hA0 := hA
  obtain ⟨mcn, cap, f, ha, hO, h1, h2, h3, hf, h4, h5⟩ := hA
  refine Ct.of [some (.ref a), some (.int (nI i))] (by decide +kernel) rfl (Nat.le_of_ble_eq_true rfl) rfl rfl ?_
  refine x_iload_n (M := mJ2_get) (pc := 0) dJ2_get_0 rfl ?_
  refine x_aload_n (M := mJ2_get) (pc := 1) dJ2_get_1 rfl ?_
  refine x_get (M := mJ2_get) (pc := 2) kcJ2 2 rfl q192 dJ2_get_2 (by first | assumption | exact xu_s _ _ _ | exact (xu_n (by first | assumption | exact Ne.symm (by assumption) | exact xu_fresh (by assumption) (by assumption) | exact (xu_fresh (by assumption) (by assumption)).symm)).trans (by first | assumption | exact xu_s _ _ _ | exact (xu_n (by first | assumption | exact Ne.symm (by assumption) | exact xu_fresh (by assumption) (by assumption) | exact (xu_fresh (by assumption) (by assumption)).symm)).trans (by first | assumption | exact xu_s _ _ _ | exact (xu_n (by first | assumption | exact Ne.symm (by assumption) | exact xu_fresh (by assumption) (by assumption) | exact (xu_fresh (by assumption) (by assumption)).symm)).trans (by first | assumption | exact xu_s _ _ _)))) rfl ?_
  refine x_S2 (M := mJ2_get) (pc := 5) (M' := mJ23_checkIndex) q1167 kSJ23_checkIndex dJ2_get_5 (j_chk h i xs.length (d - 1) (by omega) hi (by omega)) (fun v_ h hq_ => ?_)
  obtain ⟨hv_, rfl⟩ := hq_; cases hv_
  refine x_pop (M := mJ2_get) (pc := 8) dJ2_get_8 ?_
  refine x_aload_n (M := mJ2_get) (pc := 9) dJ2_get_9 rfl ?_
  refine x_iload_n (M := mJ2_get) (pc := 10) dJ2_get_10 rfl ?_
  refine x_V1 (M := mJ2_get) (pc := 11) (M' := mJ2_elementData) q1173 kVJ2_elementData dJ2_get_11 (j_elementData h a arr (d - 1) xs hA0 i hi) (xIs.of kcJ2 (by first | assumption | exact xu_s _ _ _ | exact (xu_n (by first | assumption | exact Ne.symm (by assumption) | exact xu_fresh (by assumption) (by assumption) | exact (xu_fresh (by assumption) (by assumption)).symm)).trans (by first | assumption | exact xu_s _ _ _ | exact (xu_n (by first | assumption | exact Ne.symm (by assumption) | exact xu_fresh (by assumption) (by assumption) | exact (xu_fresh (by assumption) (by assumption)).symm)).trans (by first | assumption | exact xu_s _ _ _ | exact (xu_n (by first | assumption | exact Ne.symm (by assumption) | exact xu_fresh (by assumption) (by assumption) | exact (xu_fresh (by assumption) (by assumption)).symm)).trans (by first | assumption | exact xu_s _ _ _))))) (fun v_ h hq_ => ?_)
  obtain ⟨hv_, rfl⟩ := hq_; cases hv_
  refine x_aret (M := mJ2_get) (pc := 14) dJ2_get_14 rfl (by first | exact Or.inl ⟨_, rfl⟩ | exact Or.inr ⟨_, rfl⟩) (by first | exact Nat.le_of_ble_eq_true rfl | omega) (by first | exact Nat.le_of_ble_eq_true rfl | omega) ?_
  exact ⟨rfl, rfl⟩
theorem j_ALinit0 (h : xH) (a d : Nat) (hd : 1 ≤ d) : Ct g l mJ0_init d 0 0 [.ref a] h (fun o h' => o = .inl none ∧ h' = h) := by
  refine Ct.of [some (.ref a)] (by decide +kernel) rfl (Nat.le_of_ble_eq_true rfl) rfl rfl ?_
  refine x_aload_n (M := mJ0_init) (pc := 0) dJ0_init_0 rfl ?_
  refine x_objInit (M := mJ0_init) (pc := 1) q186 dJ0_init_1 (by first | exact Nat.le_of_ble_eq_true rfl | omega) (by first | exact Nat.le_of_ble_eq_true rfl | (simp [xcat_rf, Value.category])) ?_
  refine x_vret (M := mJ0_init) (pc := 4) dJ0_init_4 rfl (by first | exact Nat.le_of_ble_eq_true rfl | omega) (by first | exact Nat.le_of_ble_eq_true rfl | omega) ?_
  exact ⟨rfl, rfl⟩
theorem j_ALinit1 (h : xH) (a d : Nat) (mcn : Int32) (v1 v2 : Value) (hd : 2 ≤ d) (ha : h a = some (.inr (28, [.int mcn, v1, v2]))) : Ct g l mJ1_init d 0 0 [.ref a] h (fun o h' => o = .inl none ∧ h' = xu h a (.inr (28, [.int (nI 0), v1, v2]))) := by
  refine Ct.of [some (.ref a)] (by decide +kernel) rfl (Nat.le_of_ble_eq_true rfl) rfl rfl ?_
  refine x_aload_n (M := mJ1_init) (pc := 0) dJ1_init_0 rfl ?_
  refine x_I0 (M := mJ1_init) (pc := 1) (M' := mJ0_init) q183 kIJ0_init dJ1_init_1 (j_ALinit0 h a (d - 1) (by omega)) (fun v_ h hq_ => ?_)
  obtain ⟨hv_, rfl⟩ := hq_; cases hv_
  refine x_aload_n (M := mJ1_init) (pc := 4) dJ1_init_4 rfl ?_
  refine x_iconst (M := mJ1_init) (pc := 5) (v := nI 0) dJ1_init_5 (by decide) ?_
  first | refine x_put0' (M := mJ1_init) (pc := 6) kcJ2 q193 dJ1_init_6 ?_ | refine x_put0 (M := mJ1_init) (pc := 6) kcJ2 q193 dJ1_init_6 (by first | assumption | exact xu_s _ _ _ | exact (xu_n (by first | assumption | exact Ne.symm (by assumption) | exact xu_fresh (by assumption) (by assumption) | exact (xu_fresh (by assumption) (by assumption)).symm)).trans (by first | assumption | exact xu_s _ _ _ | exact (xu_n (by first | assumption | exact Ne.symm (by assumption) | exact xu_fresh (by assumption) (by assumption) | exact (xu_fresh (by assumption) (by assumption)).symm)).trans (by first | assumption | exact xu_s _ _ _ | exact (xu_n (by first | assumption | exact Ne.symm (by assumption) | exact xu_fresh (by assumption) (by assumption) | exact (xu_fresh (by assumption) (by assumption)).symm)).trans (by first | assumption | exact xu_s _ _ _)))) ?_
  refine x_vret (M := mJ1_init) (pc := 9) dJ1_init_9 rfl (by first | exact Nat.le_of_ble_eq_true rfl | omega) (by first | exact Nat.le_of_ble_eq_true rfl | omega) ?_
  exact ⟨rfl, rfl⟩
theorem j_ALinit (h : xH) (a d : Nat) (mcn : Int32) (v1 : Value) (hd : 3 ≤ d) (ha : h a = some (.inr (28, [.int mcn, v1, .int (nI 0)]))) : Ct g l mJ2_init d 0 0 [.ref a] h (fun o h' => o = .inl none ∧ h' = xu h a (.inr (28, [.int (nI 0), .ref (xca g 0 0), .int (nI 0)]))) := by
  refine Ct.of [some (.ref a)] (by decide +kernel) rfl (Nat.le_of_ble_eq_true rfl) rfl rfl ?_
  refine x_aload_n (M := mJ2_init) (pc := 0) dJ2_init_0 rfl ?_
  refine x_I0 (M := mJ2_init) (pc := 1) (M' := mJ1_init) q180 kIJ1_init dJ2_init_1 (j_ALinit1 h a (d - 1) mcn v1 (.int (nI 0)) (by omega) ha) (fun v_ h hq_ => ?_)
  obtain ⟨hv_, rfl⟩ := hq_; cases hv_
  refine x_aload_n (M := mJ2_init) (pc := 4) dJ2_init_4 rfl ?_
  refine x_gets (M := mJ2_init) (pc := 5) 0 q187 dJ2_init_5 rfl ?_
  first | refine x_put1' (M := mJ2_init) (pc := 8) kcJ2 q189 dJ2_init_8 ?_ | refine x_put1 (M := mJ2_init) (pc := 8) kcJ2 q189 dJ2_init_8 (by first | assumption | exact xu_s _ _ _ | exact (xu_n (by first | assumption | exact Ne.symm (by assumption) | exact xu_fresh (by assumption) (by assumption) | exact (xu_fresh (by assumption) (by assumption)).symm)).trans (by first | assumption | exact xu_s _ _ _ | exact (xu_n (by first | assumption | exact Ne.symm (by assumption) | exact xu_fresh (by assumption) (by assumption) | exact (xu_fresh (by assumption) (by assumption)).symm)).trans (by first | assumption | exact xu_s _ _ _ | exact (xu_n (by first | assumption | exact Ne.symm (by assumption) | exact xu_fresh (by assumption) (by assumption) | exact (xu_fresh (by assumption) (by assumption)).symm)).trans (by first | assumption | exact xu_s _ _ _)))) ?_
  refine x_vret (M := mJ2_init) (pc := 11) dJ2_init_11 rfl (by first | exact Nat.le_of_ble_eq_true rfl | omega) (by first | exact Nat.le_of_ble_eq_true rfl | omega) ?_
  exact ⟨rfl, rfl⟩
theorem AL_new {a : Nat} (hne : xca g 0 0 ≠ a) : AL g (xu h a (.inr (28, [.int (nI 0), .ref (xca g 0 0), .int (nI 0)]))) a (xca g 0 0) [] :=
  ⟨nI 0, 0, fun _ => none, xu_s _ _ _, Or.inr ⟨rfl, rfl⟩, Nat.le_refl _, by decide, fun i hi => absurd hi (Nat.not_lt_zero i), fun _ _ _ => rfl, hne, fun _ => rfl⟩
theorem xOb_el {cap n : Nat} {f : Nat → Option Nat} {xs : List Nat} (hel : ∀ y ∈ xs, xOb g h y) (h3 : ∀ i, i < xs.length → f i = some (xs.getD i 0)) (hf : ∀ i, xs.length ≤ i → i < cap → f i = none) : ∀ i, i < min cap n → ∀ y, f i = some y → ∃ C, xIs g h y C ∧ xasg C "java/lang/Object" := by
  intro i hi y hy
  rcases Nat.lt_or_ge i xs.length with q | q
  · rw [h3 i q] at hy
    cases hy
    refine hel _ ?_
    rw [List.getD_eq_getElem?_getD, List.getElem?_eq_getElem q]
    exact List.getElem_mem q
  · rw [hf i q (by omega)] at hy; cases hy
theorem j_grow (h : xH) (a arr cap m d : Nat) (mcn : Int32) (f : Nat → Option Nat) (xs : List Nat) (hd : 4 ≤ d) (hA : AL0 g h a mcn arr cap f xs) (hel : ∀ y ∈ xs, xOb g h y) (hm : cap < m) (hm2 : m < 2 ^ 15) : Ct g l mJ2_grow d 1 (2 * m + 10) [.ref a, .int (nI m)] h (fun o h' => ∃ q cap' f', o = .inl (some (.ref q)) ∧ h q = none ∧ m ≤ cap' ∧ cap' ≤ 2 * m + 10 ∧ (∀ i, i < xs.length → f' i = some (xs.getD i 0)) ∧ (∀ i, xs.length ≤ i → f' i = none) ∧ h' = xu (xu h q (.inl (xdA g 3, cap', .inr (.inr (.inr (.inr f')))))) a (.inr (28, [.int mcn, .ref q, .int (nI xs.length)]))) := by
  obtain ⟨ha, hO, h1, h2, h3, hf, h4, h5⟩ := hA
  refine Ct.of [some (.ref a), some (.int (nI m)), none, none] (by decide +kernel) rfl (Nat.le_of_ble_eq_true rfl) rfl rfl ?_
  refine x_aload_n (M := mJ2_grow) (pc := 0) dJ2_grow_0 rfl ?_
  refine x_get (M := mJ2_grow) (pc := 1) kcJ2 1 rfl q189 dJ2_grow_1 (by first | assumption | exact xu_s _ _ _ | exact (xu_n (by first | assumption | exact Ne.symm (by assumption) | exact xu_fresh (by assumption) (by assumption) | exact (xu_fresh (by assumption) (by assumption)).symm)).trans (by first | assumption | exact xu_s _ _ _ | exact (xu_n (by first | assumption | exact Ne.symm (by assumption) | exact xu_fresh (by assumption) (by assumption) | exact (xu_fresh (by assumption) (by assumption)).symm)).trans (by first | assumption | exact xu_s _ _ _ | exact (xu_n (by first | assumption | exact Ne.symm (by assumption) | exact xu_fresh (by assumption) (by assumption) | exact (xu_fresh (by assumption) (by assumption)).symm)).trans (by first | assumption | exact xu_s _ _ _)))) rfl ?_
  refine x_alenO (M := mJ2_grow) (pc := 4) dJ2_grow_4 hO ?_
  refine x_istore2 (M := mJ2_grow) (pc := 5) dJ2_grow_5 ?_
  refine x_iload_n (M := mJ2_grow) (pc := 6) dJ2_grow_6 rfl ?_
  first | with_reducible refine x_if_gtN (M := mJ2_grow) (pc := 7) 20 dJ2_grow_7 (by decide) (by omega) (fun c7 => ?_) (fun c7 => ?_) | refine x_if_gt (M := mJ2_grow) (pc := 7) 20 dJ2_grow_7 (by decide) (fun c7 => ?_) (fun c7 => ?_)
  · refine x_iload_n (M := mJ2_grow) (pc := 20) dJ2_grow_20 rfl ?_
    refine x_iload_n (M := mJ2_grow) (pc := 21) dJ2_grow_21 rfl ?_
    refine x_iload_n (M := mJ2_grow) (pc := 22) dJ2_grow_22 rfl ?_
    first | with_reducible refine x_isubN (M := mJ2_grow) (pc := 23) dJ2_grow_23 (by omega) ?_ | refine x_isub (M := mJ2_grow) (pc := 23) dJ2_grow_23 ?_
    refine x_iload_n (M := mJ2_grow) (pc := 24) dJ2_grow_24 rfl ?_
    refine x_iconst (M := mJ2_grow) (pc := 25) (v := nI 1) dJ2_grow_25 (by decide) ?_
    refine x_ishr (M := mJ2_grow) (pc := 26) dJ2_grow_26 ?_
    refine x_val (M := mJ2_grow) (pc := 27) (nI_shr (by omega) (by omega)) ?_
    refine x_S3 (M := mJ2_grow) (pc := 27) (M' := mJ22_newLength) q1049 kSJ22_newLength dJ2_grow_27 (j_newLength h cap (m - cap) (cap / 2 ^ 1) (d - 1) (by omega) (by omega) (by omega) (by omega) (by omega)) (fun v_ h hq_ => ?_)
    obtain ⟨hv_, rfl⟩ := hq_; cases hv_
    refine x_istore3 (M := mJ2_grow) (pc := 30) dJ2_grow_30 ?_
    refine x_aload_n (M := mJ2_grow) (pc := 31) dJ2_grow_31 rfl ?_
    refine x_aload_n (M := mJ2_grow) (pc := 32) dJ2_grow_32 rfl ?_
    refine x_get (M := mJ2_grow) (pc := 33) kcJ2 1 rfl q189 dJ2_grow_33 (by first | assumption | exact xu_s _ _ _ | exact (xu_n (by first | assumption | exact Ne.symm (by assumption) | exact xu_fresh (by assumption) (by assumption) | exact (xu_fresh (by assumption) (by assumption)).symm)).trans (by first | assumption | exact xu_s _ _ _ | exact (xu_n (by first | assumption | exact Ne.symm (by assumption) | exact xu_fresh (by assumption) (by assumption) | exact (xu_fresh (by assumption) (by assumption)).symm)).trans (by first | assumption | exact xu_s _ _ _ | exact (xu_n (by first | assumption | exact Ne.symm (by assumption) | exact xu_fresh (by assumption) (by assumption) | exact (xu_fresh (by assumption) (by assumption)).symm)).trans (by first | assumption | exact xu_s _ _ _)))) rfl ?_
    refine x_iload_n (M := mJ2_grow) (pc := 36) dJ2_grow_36 rfl ?_
    refine x_S2 (M := mJ2_grow) (pc := 37) (M' := mJ11_copyOf) q691 kSJ11_copyOf dJ2_grow_37 (j_copyOf h arr cap (cap + max (m - cap) (cap / 2 ^ 1)) (d - 1) f (by omega) hO (by omega) (by omega) (xOb_el hel h3 hf)) (fun v_ h hq_ => ?_)
    obtain ⟨q, hv_, hq, rfl⟩ := hq_; cases hv_
    refine x_dup_x1 (M := mJ2_grow) (pc := 40) dJ2_grow_40 ?_
    first | refine x_put1' (M := mJ2_grow) (pc := 41) kcJ2 q189 dJ2_grow_41 ?_ | refine x_put1 (M := mJ2_grow) (pc := 41) kcJ2 q189 dJ2_grow_41 (by first | assumption | exact xu_s _ _ _ | exact (xu_n (by first | assumption | exact Ne.symm (by assumption) | exact xu_fresh (by assumption) (by assumption) | exact (xu_fresh (by assumption) (by assumption)).symm)).trans (by first | assumption | exact xu_s _ _ _ | exact (xu_n (by first | assumption | exact Ne.symm (by assumption) | exact xu_fresh (by assumption) (by assumption) | exact (xu_fresh (by assumption) (by assumption)).symm)).trans (by first | assumption | exact xu_s _ _ _ | exact (xu_n (by first | assumption | exact Ne.symm (by assumption) | exact xu_fresh (by assumption) (by assumption) | exact (xu_fresh (by assumption) (by assumption)).symm)).trans (by first | assumption | exact xu_s _ _ _)))) ?_
    refine x_aret (M := mJ2_grow) (pc := 44) dJ2_grow_44 rfl (by first | exact Or.inl ⟨_, rfl⟩ | exact Or.inr ⟨_, rfl⟩) (by first | exact Nat.le_of_ble_eq_true rfl | omega) (by first | exact Nat.le_of_ble_eq_true rfl | omega) ?_
    exact ⟨q, _, _, rfl, hq, by omega, by omega, fun i hi => by rw [if_pos (by omega)]; exact h3 i hi, fun i hi => by by_cases z : i < min cap (cap + max (m - cap) (cap / 2 ^ 1)); (rw [if_pos z]; exact hf i hi (by omega)); rw [if_neg z], rfl⟩
  · refine x_aload_n (M := mJ2_grow) (pc := 10) dJ2_grow_10 rfl ?_
    refine x_get (M := mJ2_grow) (pc := 11) kcJ2 1 rfl q189 dJ2_grow_11 (by first | assumption | exact xu_s _ _ _ | exact (xu_n (by first | assumption | exact Ne.symm (by assumption) | exact xu_fresh (by assumption) (by assumption) | exact (xu_fresh (by assumption) (by assumption)).symm)).trans (by first | assumption | exact xu_s _ _ _ | exact (xu_n (by first | assumption | exact Ne.symm (by assumption) | exact xu_fresh (by assumption) (by assumption) | exact (xu_fresh (by assumption) (by assumption)).symm)).trans (by first | assumption | exact xu_s _ _ _ | exact (xu_n (by first | assumption | exact Ne.symm (by assumption) | exact xu_fresh (by assumption) (by assumption) | exact (xu_fresh (by assumption) (by assumption)).symm)).trans (by first | assumption | exact xu_s _ _ _)))) rfl ?_
    refine x_gets (M := mJ2_grow) (pc := 14) 0 q187 dJ2_grow_14 rfl ?_
    refine x_acmp_eq (M := mJ2_grow) (pc := 17) (some arr) (some (xca g 0 0)) 45 dJ2_grow_17 (by decide) rfl rfl (fun _ => ?_) (fun c => absurd (by rw [h5 c7]) c)
    have e0 : xs.length = 0 := by omega
    refine x_aload_n (M := mJ2_grow) (pc := 45) dJ2_grow_45 rfl ?_
    refine x_bipush (M := mJ2_grow) (pc := 46) (v := nI 10) dJ2_grow_46 (by decide) ?_
    refine x_iload_n (M := mJ2_grow) (pc := 48) dJ2_grow_48 rfl ?_
    refine x_mmax (M := mJ2_grow) (pc := 49) q1050 dJ2_grow_49 (by omega) (by omega) (by first | assumption | omega) (by first | exact Nat.le_of_ble_eq_true rfl | omega) (by first | exact Nat.le_of_ble_eq_true rfl | omega) (by first | exact Nat.le_of_ble_eq_true rfl | (simp [xcat_rf, Value.category])) ?_
    refine x_anew (M := mJ2_grow) (pc := 52) 3 _ q1051 q323 dJ2_grow_52 (by first | rfl | assumption) (by first | exact Nat.le_of_ble_eq_true rfl | omega) (by first | exact Nat.le_of_ble_eq_true rfl | omega) (by first | exact Nat.le_of_ble_eq_true rfl | omega) (fun q52_ hq52_ hb52_ => ?_)
    (try simp only [xu_noneI] at hq52_)
    repeat (obtain ⟨_, hq52_⟩ : _ ∧ _ := hq52_)
    refine x_dup_x1 (M := mJ2_grow) (pc := 55) dJ2_grow_55 ?_
    first | refine x_put1' (M := mJ2_grow) (pc := 56) kcJ2 q189 dJ2_grow_56 ?_ | refine x_put1 (M := mJ2_grow) (pc := 56) kcJ2 q189 dJ2_grow_56 (by first | assumption | exact xu_s _ _ _ | exact (xu_n (by first | assumption | exact Ne.symm (by assumption) | exact xu_fresh (by assumption) (by assumption) | exact (xu_fresh (by assumption) (by assumption)).symm)).trans (by first | assumption | exact xu_s _ _ _ | exact (xu_n (by first | assumption | exact Ne.symm (by assumption) | exact xu_fresh (by assumption) (by assumption) | exact (xu_fresh (by assumption) (by assumption)).symm)).trans (by first | assumption | exact xu_s _ _ _ | exact (xu_n (by first | assumption | exact Ne.symm (by assumption) | exact xu_fresh (by assumption) (by assumption) | exact (xu_fresh (by assumption) (by assumption)).symm)).trans (by first | assumption | exact xu_s _ _ _)))) ?_
    refine x_aret (M := mJ2_grow) (pc := 59) dJ2_grow_59 rfl (by first | exact Or.inl ⟨_, rfl⟩ | exact Or.inr ⟨_, rfl⟩) (by first | exact Nat.le_of_ble_eq_true rfl | omega) (by first | exact Nat.le_of_ble_eq_true rfl | omega) ?_
    exact ⟨q52_, _, _, rfl, hq52_, by omega, by omega, fun i hi => by omega, fun i hi => rfl, rfl⟩
theorem j_grow2 (h : xH) (a arr cap d : Nat) (mcn : Int32) (f : Nat → Option Nat) (xs : List Nat) (hd : 5 ≤ d) (hA : AL0 g h a mcn arr cap f xs) (hel : ∀ y ∈ xs, xOb g h y) (hm : cap = xs.length) (hm2 : xs.length < 2 ^ 14) : Ct g l mJ2_grow_2 d 1 (2 * xs.length + 12) [.ref a] h (fun o h' => ∃ q cap' f', o = .inl (some (.ref q)) ∧ h q = none ∧ xs.length + 1 ≤ cap' ∧ cap' ≤ 2 * (xs.length + 1) + 10 ∧ (∀ i, i < xs.length → f' i = some (xs.getD i 0)) ∧ (∀ i, xs.length ≤ i → f' i = none) ∧ h' = xu (xu h q (.inl (xdA g 3, cap', .inr (.inr (.inr (.inr f')))))) a (.inr (28, [.int mcn, .ref q, .int (nI xs.length)]))) := by
  have ha := hA.1
  refine Ct.of [some (.ref a)] (by decide +kernel) rfl (Nat.le_of_ble_eq_true rfl) rfl rfl ?_
  refine x_aload_n (M := mJ2_grow_2) (pc := 0) dJ2_grow_2_0 rfl ?_
  refine x_aload_n (M := mJ2_grow_2) (pc := 1) dJ2_grow_2_1 rfl ?_
  refine x_get (M := mJ2_grow_2) (pc := 2) kcJ2 2 rfl q192 dJ2_grow_2_2 (by first | assumption | exact xu_s _ _ _ | exact (xu_n (by first | assumption | exact Ne.symm (by assumption) | exact xu_fresh (by assumption) (by assumption) | exact (xu_fresh (by assumption) (by assumption)).symm)).trans (by first | assumption | exact xu_s _ _ _ | exact (xu_n (by first | assumption | exact Ne.symm (by assumption) | exact xu_fresh (by assumption) (by assumption) | exact (xu_fresh (by assumption) (by assumption)).symm)).trans (by first | assumption | exact xu_s _ _ _ | exact (xu_n (by first | assumption | exact Ne.symm (by assumption) | exact xu_fresh (by assumption) (by assumption) | exact (xu_fresh (by assumption) (by assumption)).symm)).trans (by first | assumption | exact xu_s _ _ _)))) rfl ?_
  refine x_iconst (M := mJ2_grow_2) (pc := 5) (v := nI 1) dJ2_grow_2_5 (by decide) ?_
  first | with_reducible refine x_iaddN (M := mJ2_grow_2) (pc := 6) dJ2_grow_2_6 ?_ | refine x_iadd (M := mJ2_grow_2) (pc := 6) dJ2_grow_2_6 ?_
  refine x_V1 (M := mJ2_grow_2) (pc := 7) (M' := mJ2_grow) q1045 kVJ2_grow dJ2_grow_2_7 (j_grow h a arr cap (xs.length + 1) (d - 1) mcn f xs (by omega) hA hel (by omega) (by omega)) (xIs.of kcJ2 (by first | assumption | exact xu_s _ _ _ | exact (xu_n (by first | assumption | exact Ne.symm (by assumption) | exact xu_fresh (by assumption) (by assumption) | exact (xu_fresh (by assumption) (by assumption)).symm)).trans (by first | assumption | exact xu_s _ _ _ | exact (xu_n (by first | assumption | exact Ne.symm (by assumption) | exact xu_fresh (by assumption) (by assumption) | exact (xu_fresh (by assumption) (by assumption)).symm)).trans (by first | assumption | exact xu_s _ _ _ | exact (xu_n (by first | assumption | exact Ne.symm (by assumption) | exact xu_fresh (by assumption) (by assumption) | exact (xu_fresh (by assumption) (by assumption)).symm)).trans (by first | assumption | exact xu_s _ _ _))))) (fun v_ h hq_ => ?_)
  obtain ⟨q, cap', f', hv_, hq⟩ := hq_; cases hv_
  refine x_aret (M := mJ2_grow_2) (pc := 10) dJ2_grow_2_10 rfl (by first | exact Or.inl ⟨_, rfl⟩ | exact Or.inr ⟨_, rfl⟩) (by first | exact Nat.le_of_ble_eq_true rfl | omega) (by first | exact Nat.le_of_ble_eq_true rfl | omega) ?_
  exact ⟨q, cap', f', rfl, hq⟩
theorem getD_app (xs : List Nat) (v i : Nat) (hi : i < xs.length) : (xs ++ [v]).getD i 0 = xs.getD i 0 := by
  simp [List.getD_eq_getElem?_getD, List.getElem?_append_left hi]
theorem getD_last (xs : List Nat) (v : Nat) : (xs ++ [v]).getD xs.length 0 = v := by
  simp [List.getD_eq_getElem?_getD]
theorem j_add2t (h : xH) (a arr cap d mc ms uc us v : Nat) (mcn : Int32) (f : Nat → Option Nat) (xs : List Nat) (hA : AL0 g h a mcn arr cap f xs) (hlt : xs.length < cap) (hv : xOb g h v) (h1 : uc ≤ mc) (h2 : us ≤ ms) (Q : xO → xH → Prop)
    (hE : AL0 g (xu (xu h arr (.inl (xdA g 3, cap, .inr (.inr (.inr (.inr (va_up f xs.length (some v)))))))) a (.inr (28, [.int mcn, .ref arr, .int (nI (xs.length + 1))]))) a mcn arr cap (va_up f xs.length (some v)) (xs ++ [v]) → Q (.inl none) (xu (xu h arr (.inl (xdA g 3, cap, .inr (.inr (.inr (.inr (va_up f xs.length (some v)))))))) a (.inr (28, [.int mcn, .ref arr, .int (nI (xs.length + 1))])))) :
    X g l mJ2_add_2 d mc ms Q 11 [some (.ref a), some (.ref v), some (.ref arr), some (.int (nI xs.length))] [] h uc us := by
  obtain ⟨ha, hO, k1, k2, k3, kf, k4, k5⟩ := hA
  have hb : h arr = some (.inl (xdA g 3, cap, .inr (.inr (.inr (.inr f))))) := hO.resolve_right (fun q => by omega)
  obtain ⟨C, hv1, hv2⟩ := hv
  refine x_aload_n (M := mJ2_add_2) (pc := 11) dJ2_add_2_11 rfl ?_
  refine x_iload_n (M := mJ2_add_2) (pc := 12) dJ2_add_2_12 rfl ?_
  refine x_aload_n (M := mJ2_add_2) (pc := 13) dJ2_add_2_13 rfl ?_
  refine x_aastN (M := mJ2_add_2) (pc := 14) _ dJ2_add_2_14 (by first | assumption | exact xu_s _ _ _ | exact (xu_n (by first | assumption | exact Ne.symm (by assumption) | exact xu_fresh (by assumption) (by assumption) | exact (xu_fresh (by assumption) (by assumption)).symm)).trans (by first | assumption | exact xu_s _ _ _ | exact (xu_n (by first | assumption | exact Ne.symm (by assumption) | exact xu_fresh (by assumption) (by assumption) | exact (xu_fresh (by assumption) (by assumption)).symm)).trans (by first | assumption | exact xu_s _ _ _ | exact (xu_n (by first | assumption | exact Ne.symm (by assumption) | exact xu_fresh (by assumption) (by assumption) | exact (xu_fresh (by assumption) (by assumption)).symm)).trans (by first | assumption | exact xu_s _ _ _)))) (hv1) (hv2) (by first | rfl | assumption) (by first | assumption | omega) (by first | decide | omega) ?_
  refine x_aload_n (M := mJ2_add_2) (pc := 15) dJ2_add_2_15 rfl ?_
  refine x_iload_n (M := mJ2_add_2) (pc := 16) dJ2_add_2_16 rfl ?_
  refine x_iconst (M := mJ2_add_2) (pc := 17) (v := nI 1) dJ2_add_2_17 (by decide) ?_
  first | with_reducible refine x_iaddN (M := mJ2_add_2) (pc := 18) dJ2_add_2_18 ?_ | refine x_iadd (M := mJ2_add_2) (pc := 18) dJ2_add_2_18 ?_
  first | refine x_put2' (M := mJ2_add_2) (pc := 19) kcJ2 q192 dJ2_add_2_19 ?_ | refine x_put2 (M := mJ2_add_2) (pc := 19) kcJ2 q192 dJ2_add_2_19 (by first | assumption | exact xu_s _ _ _ | exact (xu_n (by first | assumption | exact Ne.symm (by assumption) | exact xu_fresh (by assumption) (by assumption) | exact (xu_fresh (by assumption) (by assumption)).symm)).trans (by first | assumption | exact xu_s _ _ _ | exact (xu_n (by first | assumption | exact Ne.symm (by assumption) | exact xu_fresh (by assumption) (by assumption) | exact (xu_fresh (by assumption) (by assumption)).symm)).trans (by first | assumption | exact xu_s _ _ _ | exact (xu_n (by first | assumption | exact Ne.symm (by assumption) | exact xu_fresh (by assumption) (by assumption) | exact (xu_fresh (by assumption) (by assumption)).symm)).trans (by first | assumption | exact xu_s _ _ _)))) ?_
  refine x_vret (M := mJ2_add_2) (pc := 22) dJ2_add_2_22 rfl (by first | exact Nat.le_of_ble_eq_true rfl | omega) (by first | exact Nat.le_of_ble_eq_true rfl | omega) ?_
  refine hE ⟨xu_s _ _ _ |>.trans (by simp), Or.inl ((xu_n k4).trans (xu_s _ _ _)), by simp; omega, k2, fun i hi => ?_, fun i hi hc => ?_, k4, k5⟩
  · simp only [List.length_append, List.length_cons, List.length_nil] at hi
    by_cases q : i = xs.length
    · subst q; rw [getD_last]; simp [va_up]
    · rw [getD_app _ _ _ (by omega)]; simp [va_up, q]; exact k3 i (by omega)
  · simp only [List.length_append, List.length_cons, List.length_nil] at hi
    simp [va_up, show i ≠ xs.length by omega]; exact kf i (by omega) hc
theorem j_add2 (h : xH) (a arr cap d v : Nat) (mcn : Int32) (f : Nat → Option Nat) (xs : List Nat) (hd : 6 ≤ d) (hA : AL0 g h a mcn arr cap f xs) (hv : xOb g h v) (hel : ∀ y ∈ xs, xOb g h y) (hl : xs.length < 2 ^ 14) : Ct g l mJ2_add_2 d 1 (2 * xs.length + 12) [.ref a, .ref v, .ref arr, .int (nI xs.length)] h (fun o h' => o = .inl none ∧ ∃ arr', AL g h' a arr' (xs ++ [v]) ∧ xle2 a arr h h' ∧ (arr' = arr ∨ h arr' = none)) := by
  have ha := hA.1
  have hO := hA.2.1
  have hcap := hA.2.2.2.1
  refine Ct.of [some (.ref a), some (.ref v), some (.ref arr), some (.int (nI xs.length))] (by decide +kernel) rfl (Nat.le_of_ble_eq_true rfl) rfl rfl ?_
  refine x_iload_n (M := mJ2_add_2) (pc := 0) dJ2_add_2_0 rfl ?_
  refine x_aload_n (M := mJ2_add_2) (pc := 1) dJ2_add_2_1 rfl ?_
  refine x_alenO (M := mJ2_add_2) (pc := 2) dJ2_add_2_2 hO ?_
  first | with_reducible refine x_icmp_neN (M := mJ2_add_2) (pc := 3) 11 dJ2_add_2_3 (by decide) (by omega) (by omega) (fun c3 => ?_) (fun c3 => ?_) | refine x_icmp_ne (M := mJ2_add_2) (pc := 3) 11 dJ2_add_2_3 (by decide) (fun c3 => ?_) (fun c3 => ?_)
  · refine j_add2t h a arr cap d 1 _ 0 0 v mcn f xs hA (by have := hA.2.2.1; omega) hv (by omega) (by omega) _ (fun hN => ⟨rfl, arr, ⟨_, _, _, hN⟩, fun b e n1 n2 hb => (xu_n n1).trans ((xu_n n2).trans hb), Or.inl rfl⟩)
  · refine x_aload_n (M := mJ2_add_2) (pc := 6) dJ2_add_2_6 rfl ?_
    refine x_V0 (M := mJ2_add_2) (pc := 7) (M' := mJ2_grow_2) q1113 kVJ2_grow_2 dJ2_add_2_7 (j_grow2 h a arr cap (d - 1) mcn f xs (by omega) hA hel c3.symm hl) (hA.is) (fun v_ h hq_ => ?_)
    obtain ⟨q, cap', f', hv_, hq, w1, w2, w3, w4, rfl⟩ := hq_; cases hv_
    refine x_astore2 (M := mJ2_add_2) (pc := 10) dJ2_add_2_10 ?_
    skip
    have hqa : q ≠ a := fun e => by rw [e, ha] at hq; cases hq
    have hA' : AL0 g (xu (xu h q (.inl (xdA g 3, cap', .inr (.inr (.inr (.inr f')))))) a (.inr (28, [.int mcn, .ref q, .int (nI xs.length)]))) a mcn q cap' f' xs := ⟨xu_s _ _ _, Or.inl ((xu_n hqa).trans (xu_s _ _ _)), by omega, by omega, w3, fun i hi _ => w4 i hi, hqa, fun z => by omega⟩
    have hle : ∀ b e, b ≠ a → h b = some e → (xu (xu h q (.inl (xdA g 3, cap', .inr (.inr (.inr (.inr f')))))) a (.inr (28, [.int mcn, .ref q, .int (nI xs.length)]))) b = some e := fun b e n1 hb => (xu_n n1).trans ((xu_n (fun z => by rw [z, hq] at hb; cases hb)).trans hb)
    have hv' : xOb g (xu (xu h q (.inl (xdA g 3, cap', .inr (.inr (.inr (.inr f')))))) a (.inr (28, [.int mcn, .ref q, .int (nI xs.length)]))) v := by
      obtain ⟨C, hv1, hv2⟩ := hv
      refine ⟨C, ?_, hv2⟩
      rcases hv1 with ⟨ci, fs, r, z1, z2, z3⟩ | z
      · by_cases e : v = a
        · subst e; rw [ha] at z1; cases z1; exact Or.inl ⟨28, _, r, xu_s _ _ _, z2, z3⟩
        · exact Or.inl ⟨ci, fs, r, hle _ _ e z1, z2, z3⟩
      · exact Or.inr z
    refine j_add2t _ a q cap' d 1 _ _ _ v mcn f' xs hA' (by omega) hv' (by omega) (by omega) _ (fun hN => ⟨rfl, q, ⟨_, _, _, hN⟩, fun b e n1 n2 hb => ?_, Or.inr hq⟩)
    exact (xu_n n1).trans ((xu_n (fun z => by rw [z, hq] at hb; cases hb)).trans (hle b e n1 hb))
theorem xOb.upd {a y : Nat} {ci : Nat} {fs fs' : List Value} (ha : h a = some (.inr (ci, fs))) (hy : xOb g h y) : xOb g (xu h a (.inr (ci, fs'))) y := by
  obtain ⟨C, h1, h2⟩ := hy
  refine ⟨C, ?_, h2⟩
  rcases h1 with ⟨c, fz, r, z1, z2, z3⟩ | z
  · by_cases e : y = a
    · subst e; rw [ha] at z1; cases z1; exact Or.inl ⟨_, _, r, xu_s _ _ _, z2, z3⟩
    · exact Or.inl ⟨c, fz, r, (xu_n e).trans z1, z2, z3⟩
  · exact Or.inr z
theorem j_add (h : xH) (a arr d v : Nat) (xs : List Nat) (hd : 7 ≤ d) (hA : AL g h a arr xs) (hv : xOb g h v) (hel : ∀ y ∈ xs, xOb g h y) (hl : xs.length < 2 ^ 14) : Ct g l mJ2_add d 1 (2 * xs.length + 12) [.ref a, .ref v] h (fun o h' => o = .inl (some (.int (nI 1))) ∧ ∃ arr', AL g h' a arr' (xs ++ [v]) ∧ xle2 a arr h h' ∧ (arr' = arr ∨ h arr' = none)) := by
  obtain ⟨mcn, cap, f, hA⟩ := hA
  have ha := hA.1
  refine Ct.of [some (.ref a), some (.ref v)] (by decide +kernel) rfl (Nat.le_of_ble_eq_true rfl) rfl rfl ?_
  refine x_aload_n (M := mJ2_add) (pc := 0) dJ2_add_0 rfl ?_
  refine x_dup (M := mJ2_add) (pc := 1) dJ2_add_1 ?_
  refine x_getS (M := mJ2_add) (pc := 2) kcJ2 0 rfl q196 q195 dJ2_add_2 (by first | assumption | exact xu_s _ _ _ | exact (xu_n (by first | assumption | exact Ne.symm (by assumption) | exact xu_fresh (by assumption) (by assumption) | exact (xu_fresh (by assumption) (by assumption)).symm)).trans (by first | assumption | exact xu_s _ _ _ | exact (xu_n (by first | assumption | exact Ne.symm (by assumption) | exact xu_fresh (by assumption) (by assumption) | exact (xu_fresh (by assumption) (by assumption)).symm)).trans (by first | assumption | exact xu_s _ _ _ | exact (xu_n (by first | assumption | exact Ne.symm (by assumption) | exact xu_fresh (by assumption) (by assumption) | exact (xu_fresh (by assumption) (by assumption)).symm)).trans (by first | assumption | exact xu_s _ _ _)))) rfl ?_
  refine x_iconst (M := mJ2_add) (pc := 5) (v := nI 1) dJ2_add_5 (by decide) ?_
  first | with_reducible refine x_iaddN (M := mJ2_add) (pc := 6) dJ2_add_6 ?_ | refine x_iadd (M := mJ2_add) (pc := 6) dJ2_add_6 ?_
  refine x_GputS (M := mJ2_add) (pc := 7) kcJ2 0 rfl q196 q195 rfl dJ2_add_7 (by first | assumption | exact xu_s _ _ _ | exact (xu_n (by first | assumption | exact Ne.symm (by assumption) | exact xu_fresh (by assumption) (by assumption) | exact (xu_fresh (by assumption) (by assumption)).symm)).trans (by first | assumption | exact xu_s _ _ _ | exact (xu_n (by first | assumption | exact Ne.symm (by assumption) | exact xu_fresh (by assumption) (by assumption) | exact (xu_fresh (by assumption) (by assumption)).symm)).trans (by first | assumption | exact xu_s _ _ _ | exact (xu_n (by first | assumption | exact Ne.symm (by assumption) | exact xu_fresh (by assumption) (by assumption) | exact (xu_fresh (by assumption) (by assumption)).symm)).trans (by first | assumption | exact xu_s _ _ _)))) (by simp) rfl rfl rfl ?_
  refine x_aload_n (M := mJ2_add) (pc := 10) dJ2_add_10 rfl ?_
  refine x_aload_n (M := mJ2_add) (pc := 11) dJ2_add_11 rfl ?_
  refine x_aload_n (M := mJ2_add) (pc := 12) dJ2_add_12 rfl ?_
  refine x_get (M := mJ2_add) (pc := 13) kcJ2 1 rfl q189 dJ2_add_13 (by first | assumption | exact xu_s _ _ _ | exact (xu_n (by first | assumption | exact Ne.symm (by assumption) | exact xu_fresh (by assumption) (by assumption) | exact (xu_fresh (by assumption) (by assumption)).symm)).trans (by first | assumption | exact xu_s _ _ _ | exact (xu_n (by first | assumption | exact Ne.symm (by assumption) | exact xu_fresh (by assumption) (by assumption) | exact (xu_fresh (by assumption) (by assumption)).symm)).trans (by first | assumption | exact xu_s _ _ _ | exact (xu_n (by first | assumption | exact Ne.symm (by assumption) | exact xu_fresh (by assumption) (by assumption) | exact (xu_fresh (by assumption) (by assumption)).symm)).trans (by first | assumption | exact xu_s _ _ _)))) rfl ?_
  refine x_aload_n (M := mJ2_add) (pc := 16) dJ2_add_16 rfl ?_
  refine x_get (M := mJ2_add) (pc := 17) kcJ2 2 rfl q192 dJ2_add_17 (by first | assumption | exact xu_s _ _ _ | exact (xu_n (by first | assumption | exact Ne.symm (by assumption) | exact xu_fresh (by assumption) (by assumption) | exact (xu_fresh (by assumption) (by assumption)).symm)).trans (by first | assumption | exact xu_s _ _ _ | exact (xu_n (by first | assumption | exact Ne.symm (by assumption) | exact xu_fresh (by assumption) (by assumption) | exact (xu_fresh (by assumption) (by assumption)).symm)).trans (by first | assumption | exact xu_s _ _ _ | exact (xu_n (by first | assumption | exact Ne.symm (by assumption) | exact xu_fresh (by assumption) (by assumption) | exact (xu_fresh (by assumption) (by assumption)).symm)).trans (by first | assumption | exact xu_s _ _ _)))) rfl ?_
  refine x_V3 (M := mJ2_add) (pc := 20) (M' := mJ2_add_2) q1109 kVJ2_add_2 dJ2_add_20 (j_add2 _ a arr cap (d - 1) v _ f xs (by omega) (hA.mc _) (hv.upd ha) (fun y hy => (hel y hy).upd ha) hl) ((hA.mc _).is) (fun v_ h hq_ => ?_)
  obtain ⟨hv_, arr', w1, w2, w3⟩ := hq_; cases hv_
  refine x_iconst (M := mJ2_add) (pc := 23) (v := nI 1) dJ2_add_23 (by decide) ?_
  refine x_zret (M := mJ2_add) (pc := 24) dJ2_add_24 rfl (by first | with_reducible exact xz0 | with_reducible exact xz1 | with_reducible exact bI_01 _ | with_reducible assumption | assumption) (by first | exact Nat.le_of_ble_eq_true rfl | omega) (by first | exact Nat.le_of_ble_eq_true rfl | omega) ?_
  refine ⟨rfl, arr', w1, fun b e n1 n2 hb => w2 b e n1 n2 ((xu_n n1).trans hb), ?_⟩
  rcases w3 with rfl | w3
  · exact Or.inl rfl
  · exact Or.inr (xu_none w3).2
theorem j_clear_l (d : Nat) (a arr cap n : Nat) (hcap : cap < 2 ^ 16) (hn : n ≤ cap) (Q : xO → xH → Prop) (h0 : xH)
    (hE : ∀ f, (∀ i, i < cap → f i = none) → Q (.inl none) (xu h0 arr (.inl (xdA g 3, cap, .inr (.inr (.inr (.inr f))))))) : ∀ q k, k + q = n → ∀ f, (∀ i, i < cap → i < k ∨ n ≤ i → f i = none) →
    X g l mJ2_clear d 0 0 Q 27 [some (.ref a), some (.ref arr), some (.int (nI n)), some (.int (nI k))] [] (xu h0 arr (.inl (xdA g 3, cap, .inr (.inr (.inr (.inr f)))))) 0 0 := by
  intro q
  induction q with
  | zero =>
    intro k hk f hf
    refine x_iload_n (M := mJ2_clear) (pc := 27) dJ2_clear_27 rfl ?_
    refine x_iload_n (M := mJ2_clear) (pc := 28) dJ2_clear_28 rfl ?_
    first | with_reducible refine x_icmp_geN (M := mJ2_clear) (pc := 29) 42 dJ2_clear_29 (by decide) (by omega) (by omega) (fun c29 => ?_) (fun c29 => ?_) | refine x_icmp_ge (M := mJ2_clear) (pc := 29) 42 dJ2_clear_29 (by decide) (fun c29 => ?_) (fun c29 => ?_)
    · refine x_vret (M := mJ2_clear) (pc := 42) dJ2_clear_42 rfl (by first | exact Nat.le_of_ble_eq_true rfl | omega) (by first | exact Nat.le_of_ble_eq_true rfl | omega) ?_
      exact hE f (fun i hi => hf i hi (by omega))
    · omega
  | succ q ih =>
    intro k hk f hf
    refine x_iload_n (M := mJ2_clear) (pc := 27) dJ2_clear_27 rfl ?_
    refine x_iload_n (M := mJ2_clear) (pc := 28) dJ2_clear_28 rfl ?_
    first | with_reducible refine x_icmp_geN (M := mJ2_clear) (pc := 29) 42 dJ2_clear_29 (by decide) (by omega) (by omega) (fun c29 => ?_) (fun c29 => ?_) | refine x_icmp_ge (M := mJ2_clear) (pc := 29) 42 dJ2_clear_29 (by decide) (fun c29 => ?_) (fun c29 => ?_)
    · omega
    · refine x_aload_n (M := mJ2_clear) (pc := 32) dJ2_clear_32 rfl ?_
      refine x_iload_n (M := mJ2_clear) (pc := 33) dJ2_clear_33 rfl ?_
      refine x_null (M := mJ2_clear) (pc := 34) dJ2_clear_34 ?_
      refine x_aastZ (M := mJ2_clear) (pc := 35) _ dJ2_clear_35 (by first | assumption | exact xu_s _ _ _ | exact (xu_n (by first | assumption | exact Ne.symm (by assumption) | exact xu_fresh (by assumption) (by assumption) | exact (xu_fresh (by assumption) (by assumption)).symm)).trans (by first | assumption | exact xu_s _ _ _ | exact (xu_n (by first | assumption | exact Ne.symm (by assumption) | exact xu_fresh (by assumption) (by assumption) | exact (xu_fresh (by assumption) (by assumption)).symm)).trans (by first | assumption | exact xu_s _ _ _ | exact (xu_n (by first | assumption | exact Ne.symm (by assumption) | exact xu_fresh (by assumption) (by assumption) | exact (xu_fresh (by assumption) (by assumption)).symm)).trans (by first | assumption | exact xu_s _ _ _)))) (by first | rfl | assumption) (by first | assumption | omega) (by first | decide | omega) ?_
      first | refine x_iinc3N (M := mJ2_clear) (pc := 36) (c := 1) dJ2_clear_36 oI1 ?_ | refine x_iinc3 (M := mJ2_clear) (pc := 36) (c := 1) dJ2_clear_36 (by decide) ?_
      refine x_goto (M := mJ2_clear) (pc := 39) 27 dJ2_clear_39 (by decide) ?_
      rw [xu_xu]
      refine ih (k + 1) (by omega) _ (fun i hc hi => ?_)
      by_cases e : i = k
      · simp [va_up, e]
      · simp [va_up, e]; exact hf i hc (by omega)
end JDKAL

/-! key iterators of java.util.TreeMap; java.util.TreeSet -/
section JDKTS
set_option maxRecDepth 100000
variable {g : xG} {l : Launch} {h h0 : xH}
/-- the map of TM, by its object -/
theorem TM.obj {κ : Bool} {tm : Nat} {nk : Option Nat} {md : Int32} {ns : List Nat} {K : Nat → Nat} {V : Nat → Option Nat} {rk : Nat → Int} (hM : TM κ g h tm nk md ns K V rk) : ∃ rt sz, h tm = some (tobj rt sz md nk) := by
  obtain ⟨sz, T, L, R, P, C, hio, hS, hT, hC, hpw, hK⟩ := hM
  exact ⟨_, _, hT.1⟩
theorem TM.cel {κ : Bool} {tm : Nat} {nk : Option Nat} {md : Int32} {ns : List Nat} {K : Nat → Nat} {V : Nat → Option Nat} {rk : Nat → Int} (hM : TM κ g h tm nk md ns K V rk) : ∀ n ∈ ns, ∃ vs, h n = some (.inr (37, .ref (K n) :: va_rf (V n) :: vs)) := by
  obtain ⟨sz, T, L, R, P, C, hio, hS, hT, hC, hpw, hK⟩ := hM
  exact fun n hn => ⟨_, hT.2.1 n hn⟩
theorem TM.ck {κ : Bool} {tm : Nat} {nk : Option Nat} {md : Int32} {ns : List Nat} {K : Nat → Nat} {V : Nat → Option Nat} {rk : Nat → Int} (hM : TM κ g h tm nk md ns K V rk) : ∀ n ∈ ns, CK κ g h (K n) (rk n) := by
  obtain ⟨sz, T, L, R, P, C, hio, hS, hT, hC, hpw, hK⟩ := hM
  exact hK
/-- the map stays where other cells change -/
theorem TM.keep {κ : Bool} {h' : xH} {tm : Nat} {nk : Option Nat} {md : Int32} {ns : List Nat} {K : Nat → Nat} {V : Nat → Option Nat} {rk : Nat → Int} (hM : TM κ g h tm nk md ns K V rk) (h1 : ∀ e, h tm = some e → h' tm = some e) (h2 : ∀ n e, n ∈ ns → h n = some e → h' n = some e) (h3 : ∀ n e, n ∈ ns → h (K n) = some e → h' (K n) = some e) : TM κ g h' tm nk md ns K V rk := by
  obtain ⟨sz, T, L, R, P, C, hio, hS, hT, hC, hpw, hK⟩ := hM
  exact ⟨sz, T, L, R, P, C, hio, hS, ⟨h1 _ hT.1, fun n hn => h2 n _ hn (hT.2.1 n hn), hT.2.2⟩, hC, hpw, fun n hn => (hK n hn).le (fun e he => h3 n e hn he)⟩
theorem TM.le {κ : Bool} {h' : xH} {tm : Nat} {nk : Option Nat} {md : Int32} {ns : List Nat} {K : Nat → Nat} {V : Nat → Option Nat} {rk : Nat → Int} (hM : TM κ g h tm nk md ns K V rk) (hl : xle h h') : TM κ g h' tm nk md ns K V rk :=
  hM.keep (fun e he => hl _ _ he) (fun n e _ he => hl _ _ he) (fun n e _ he => hl _ _ he)
def KIT (h : xH) (it tm : Nat) (md : Int32) (nx : Option Nat) : Prop := ∃ lr : Option Nat, h it = some (.inr (33, [va_rf nx, va_rf lr, .int md, .ref tm]))
theorem j_peInit (h : xH) (it tm d : Nat) (rt nk nx : Option Nat) (sz md : Int32) (v0 v1 v2 v3 : Value) (hd : 1 ≤ d) (hi : h it = some (.inr (33, [v0, v1, v2, v3]))) (htm : h tm = some (tobj rt sz md nk)) (hne : tm ≠ it) : Ct g l mJ16_init d 0 0 [.ref it, .ref tm, va_rf nx] h (fun o h' => o = .inl none ∧ h' = xu h it (.inr (33, [va_rf nx, .null, .int md, .ref tm]))) := by
  unfold tobj at htm
  have hne' := hne.symm
  cases nx with
  | none =>
    show Ct g l mJ16_init d 0 0 [.ref it, .ref tm, .null] h (fun o h' => o = .inl none ∧ h' = xu h it (.inr (33, [.null, .null, .int md, .ref tm])))
    refine Ct.of [some (.ref it), some (.ref tm), some (.null)] (by decide +kernel) rfl (Nat.le_of_ble_eq_true rfl) rfl rfl ?_
    refine x_aload_n (M := mJ16_init) (pc := 0) dJ16_init_0 rfl ?_
    refine x_aload_n (M := mJ16_init) (pc := 1) dJ16_init_1 rfl ?_
    first | refine x_putF3' (M := mJ16_init) (pc := 2) kcJ17 q890 dJ16_init_2 ?_ | refine x_putF3 (M := mJ16_init) (pc := 2) kcJ17 q890 dJ16_init_2 (by first | assumption | exact xu_s _ _ _ | exact (xu_n (by first | assumption | exact Ne.symm (by assumption) | exact xu_fresh (by assumption) (by assumption) | exact (xu_fresh (by assumption) (by assumption)).symm)).trans (by first | assumption | exact xu_s _ _ _ | exact (xu_n (by first | assumption | exact Ne.symm (by assumption) | exact xu_fresh (by assumption) (by assumption) | exact (xu_fresh (by assumption) (by assumption)).symm)).trans (by first | assumption | exact xu_s _ _ _ | exact (xu_n (by first | assumption | exact Ne.symm (by assumption) | exact xu_fresh (by assumption) (by assumption) | exact (xu_fresh (by assumption) (by assumption)).symm)).trans (by first | assumption | exact xu_s _ _ _)))) ?_
    refine x_aload_n (M := mJ16_init) (pc := 5) dJ16_init_5 rfl ?_
    refine x_objInit (M := mJ16_init) (pc := 6) q886 dJ16_init_6 (by first | exact Nat.le_of_ble_eq_true rfl | omega) (by first | exact Nat.le_of_ble_eq_true rfl | (simp [xcat_rf, Value.category])) ?_
    refine x_aload_n (M := mJ16_init) (pc := 9) dJ16_init_9 rfl ?_
    refine x_aload_n (M := mJ16_init) (pc := 10) dJ16_init_10 rfl ?_
    refine x_getN (M := mJ16_init) (pc := 11) kcJ21 5 rfl q2089 dJ16_init_11 (by first | assumption | exact xu_s _ _ _ | exact (xu_n (by first | assumption | exact Ne.symm (by assumption) | exact xu_fresh (by assumption) (by assumption) | exact (xu_fresh (by assumption) (by assumption)).symm)).trans (by first | assumption | exact xu_s _ _ _ | exact (xu_n (by first | assumption | exact Ne.symm (by assumption) | exact xu_fresh (by assumption) (by assumption) | exact (xu_fresh (by assumption) (by assumption)).symm)).trans (by first | assumption | exact xu_s _ _ _ | exact (xu_n (by first | assumption | exact Ne.symm (by assumption) | exact xu_fresh (by assumption) (by assumption) | exact (xu_fresh (by assumption) (by assumption)).symm)).trans (by first | assumption | exact xu_s _ _ _)))) rfl ?_
    first | refine x_put2' (M := mJ16_init) (pc := 14) kcJ17 q889 dJ16_init_14 ?_ | refine x_put2 (M := mJ16_init) (pc := 14) kcJ17 q889 dJ16_init_14 (by first | assumption | exact xu_s _ _ _ | exact (xu_n (by first | assumption | exact Ne.symm (by assumption) | exact xu_fresh (by assumption) (by assumption) | exact (xu_fresh (by assumption) (by assumption)).symm)).trans (by first | assumption | exact xu_s _ _ _ | exact (xu_n (by first | assumption | exact Ne.symm (by assumption) | exact xu_fresh (by assumption) (by assumption) | exact (xu_fresh (by assumption) (by assumption)).symm)).trans (by first | assumption | exact xu_s _ _ _ | exact (xu_n (by first | assumption | exact Ne.symm (by assumption) | exact xu_fresh (by assumption) (by assumption) | exact (xu_fresh (by assumption) (by assumption)).symm)).trans (by first | assumption | exact xu_s _ _ _)))) ?_
    refine x_aload_n (M := mJ16_init) (pc := 17) dJ16_init_17 rfl ?_
    refine x_null (M := mJ16_init) (pc := 18) dJ16_init_18 ?_
    first | refine x_put1' (M := mJ16_init) (pc := 19) kcJ17 q888 dJ16_init_19 ?_ | refine x_put1 (M := mJ16_init) (pc := 19) kcJ17 q888 dJ16_init_19 (by first | assumption | exact xu_s _ _ _ | exact (xu_n (by first | assumption | exact Ne.symm (by assumption) | exact xu_fresh (by assumption) (by assumption) | exact (xu_fresh (by assumption) (by assumption)).symm)).trans (by first | assumption | exact xu_s _ _ _ | exact (xu_n (by first | assumption | exact Ne.symm (by assumption) | exact xu_fresh (by assumption) (by assumption) | exact (xu_fresh (by assumption) (by assumption)).symm)).trans (by first | assumption | exact xu_s _ _ _ | exact (xu_n (by first | assumption | exact Ne.symm (by assumption) | exact xu_fresh (by assumption) (by assumption) | exact (xu_fresh (by assumption) (by assumption)).symm)).trans (by first | assumption | exact xu_s _ _ _)))) ?_
    refine x_aload_n (M := mJ16_init) (pc := 22) dJ16_init_22 rfl ?_
    refine x_aload_n (M := mJ16_init) (pc := 23) dJ16_init_23 rfl ?_
    first | refine x_put0' (M := mJ16_init) (pc := 24) kcJ17 q887 dJ16_init_24 ?_ | refine x_put0 (M := mJ16_init) (pc := 24) kcJ17 q887 dJ16_init_24 (by first | assumption | exact xu_s _ _ _ | exact (xu_n (by first | assumption | exact Ne.symm (by assumption) | exact xu_fresh (by assumption) (by assumption) | exact (xu_fresh (by assumption) (by assumption)).symm)).trans (by first | assumption | exact xu_s _ _ _ | exact (xu_n (by first | assumption | exact Ne.symm (by assumption) | exact xu_fresh (by assumption) (by assumption) | exact (xu_fresh (by assumption) (by assumption)).symm)).trans (by first | assumption | exact xu_s _ _ _ | exact (xu_n (by first | assumption | exact Ne.symm (by assumption) | exact xu_fresh (by assumption) (by assumption) | exact (xu_fresh (by assumption) (by assumption)).symm)).trans (by first | assumption | exact xu_s _ _ _)))) ?_
    refine x_vret (M := mJ16_init) (pc := 27) dJ16_init_27 rfl (by first | exact Nat.le_of_ble_eq_true rfl | omega) (by first | exact Nat.le_of_ble_eq_true rfl | omega) ?_
    exact ⟨rfl, rfl⟩
  | some nx =>
    show Ct g l mJ16_init d 0 0 [.ref it, .ref tm, .ref nx] h (fun o h' => o = .inl none ∧ h' = xu h it (.inr (33, [.ref nx, .null, .int md, .ref tm])))
    refine Ct.of [some (.ref it), some (.ref tm), some (.ref nx)] (by decide +kernel) rfl (Nat.le_of_ble_eq_true rfl) rfl rfl ?_
    refine x_aload_n (M := mJ16_init) (pc := 0) dJ16_init_0 rfl ?_
    refine x_aload_n (M := mJ16_init) (pc := 1) dJ16_init_1 rfl ?_
    first | refine x_putF3' (M := mJ16_init) (pc := 2) kcJ17 q890 dJ16_init_2 ?_ | refine x_putF3 (M := mJ16_init) (pc := 2) kcJ17 q890 dJ16_init_2 (by first | assumption | exact xu_s _ _ _ | exact (xu_n (by first | assumption | exact Ne.symm (by assumption) | exact xu_fresh (by assumption) (by assumption) | exact (xu_fresh (by assumption) (by assumption)).symm)).trans (by first | assumption | exact xu_s _ _ _ | exact (xu_n (by first | assumption | exact Ne.symm (by assumption) | exact xu_fresh (by assumption) (by assumption) | exact (xu_fresh (by assumption) (by assumption)).symm)).trans (by first | assumption | exact xu_s _ _ _ | exact (xu_n (by first | assumption | exact Ne.symm (by assumption) | exact xu_fresh (by assumption) (by assumption) | exact (xu_fresh (by assumption) (by assumption)).symm)).trans (by first | assumption | exact xu_s _ _ _)))) ?_
    refine x_aload_n (M := mJ16_init) (pc := 5) dJ16_init_5 rfl ?_
    refine x_objInit (M := mJ16_init) (pc := 6) q886 dJ16_init_6 (by first | exact Nat.le_of_ble_eq_true rfl | omega) (by first | exact Nat.le_of_ble_eq_true rfl | (simp [xcat_rf, Value.category])) ?_
    refine x_aload_n (M := mJ16_init) (pc := 9) dJ16_init_9 rfl ?_
    refine x_aload_n (M := mJ16_init) (pc := 10) dJ16_init_10 rfl ?_
    refine x_getN (M := mJ16_init) (pc := 11) kcJ21 5 rfl q2089 dJ16_init_11 (by first | assumption | exact xu_s _ _ _ | exact (xu_n (by first | assumption | exact Ne.symm (by assumption) | exact xu_fresh (by assumption) (by assumption) | exact (xu_fresh (by assumption) (by assumption)).symm)).trans (by first | assumption | exact xu_s _ _ _ | exact (xu_n (by first | assumption | exact Ne.symm (by assumption) | exact xu_fresh (by assumption) (by assumption) | exact (xu_fresh (by assumption) (by assumption)).symm)).trans (by first | assumption | exact xu_s _ _ _ | exact (xu_n (by first | assumption | exact Ne.symm (by assumption) | exact xu_fresh (by assumption) (by assumption) | exact (xu_fresh (by assumption) (by assumption)).symm)).trans (by first | assumption | exact xu_s _ _ _)))) rfl ?_
    first | refine x_put2' (M := mJ16_init) (pc := 14) kcJ17 q889 dJ16_init_14 ?_ | refine x_put2 (M := mJ16_init) (pc := 14) kcJ17 q889 dJ16_init_14 (by first | assumption | exact xu_s _ _ _ | exact (xu_n (by first | assumption | exact Ne.symm (by assumption) | exact xu_fresh (by assumption) (by assumption) | exact (xu_fresh (by assumption) (by assumption)).symm)).trans (by first | assumption | exact xu_s _ _ _ | exact (xu_n (by first | assumption | exact Ne.symm (by assumption) | exact xu_fresh (by assumption) (by assumption) | exact (xu_fresh (by assumption) (by assumption)).symm)).trans (by first | assumption | exact xu_s _ _ _ | exact (xu_n (by first | assumption | exact Ne.symm (by assumption) | exact xu_fresh (by assumption) (by assumption) | exact (xu_fresh (by assumption) (by assumption)).symm)).trans (by first | assumption | exact xu_s _ _ _)))) ?_
    refine x_aload_n (M := mJ16_init) (pc := 17) dJ16_init_17 rfl ?_
    refine x_null (M := mJ16_init) (pc := 18) dJ16_init_18 ?_
    first | refine x_put1' (M := mJ16_init) (pc := 19) kcJ17 q888 dJ16_init_19 ?_ | refine x_put1 (M := mJ16_init) (pc := 19) kcJ17 q888 dJ16_init_19 (by first | assumption | exact xu_s _ _ _ | exact (xu_n (by first | assumption | exact Ne.symm (by assumption) | exact xu_fresh (by assumption) (by assumption) | exact (xu_fresh (by assumption) (by assumption)).symm)).trans (by first | assumption | exact xu_s _ _ _ | exact (xu_n (by first | assumption | exact Ne.symm (by assumption) | exact xu_fresh (by assumption) (by assumption) | exact (xu_fresh (by assumption) (by assumption)).symm)).trans (by first | assumption | exact xu_s _ _ _ | exact (xu_n (by first | assumption | exact Ne.symm (by assumption) | exact xu_fresh (by assumption) (by assumption) | exact (xu_fresh (by assumption) (by assumption)).symm)).trans (by first | assumption | exact xu_s _ _ _)))) ?_
    refine x_aload_n (M := mJ16_init) (pc := 22) dJ16_init_22 rfl ?_
    refine x_aload_n (M := mJ16_init) (pc := 23) dJ16_init_23 rfl ?_
    first | refine x_put0' (M := mJ16_init) (pc := 24) kcJ17 q887 dJ16_init_24 ?_ | refine x_put0 (M := mJ16_init) (pc := 24) kcJ17 q887 dJ16_init_24 (by first | assumption | exact xu_s _ _ _ | exact (xu_n (by first | assumption | exact Ne.symm (by assumption) | exact xu_fresh (by assumption) (by assumption) | exact (xu_fresh (by assumption) (by assumption)).symm)).trans (by first | assumption | exact xu_s _ _ _ | exact (xu_n (by first | assumption | exact Ne.symm (by assumption) | exact xu_fresh (by assumption) (by assumption) | exact (xu_fresh (by assumption) (by assumption)).symm)).trans (by first | assumption | exact xu_s _ _ _ | exact (xu_n (by first | assumption | exact Ne.symm (by assumption) | exact xu_fresh (by assumption) (by assumption) | exact (xu_fresh (by assumption) (by assumption)).symm)).trans (by first | assumption | exact xu_s _ _ _)))) ?_
    refine x_vret (M := mJ16_init) (pc := 27) dJ16_init_27 rfl (by first | exact Nat.le_of_ble_eq_true rfl | omega) (by first | exact Nat.le_of_ble_eq_true rfl | omega) ?_
    exact ⟨rfl, rfl⟩
theorem j_kiInit (h : xH) (it tm d : Nat) (rt nk nx : Option Nat) (sz md : Int32) (v0 v1 v2 v3 : Value) (hd : 2 ≤ d) (hi : h it = some (.inr (33, [v0, v1, v2, v3]))) (htm : h tm = some (tobj rt sz md nk)) (hne : tm ≠ it) : Ct g l mJ17_init d 0 0 [.ref it, .ref tm, va_rf nx] h (fun o h' => o = .inl none ∧ h' = xu h it (.inr (33, [va_rf nx, .null, .int md, .ref tm]))) := by
  refine Ct.of [some (.ref it), some (.ref tm), some (va_rf nx)] (by decide +kernel) (by cases nx <;> rfl) (by cases nx <;> exact Nat.le_of_ble_eq_true rfl) (by cases nx <;> rfl) (by cases nx <;> rfl) ?_
  refine x_aload_n (M := mJ17_init) (pc := 0) dJ17_init_0 rfl ?_
  refine x_aload_n (M := mJ17_init) (pc := 1) dJ17_init_1 rfl ?_
  refine x_aload_n (M := mJ17_init) (pc := 2) dJ17_init_2 rfl ?_
  refine x_I2 (M := mJ17_init) (pc := 3) (M' := mJ16_init) q883 kIJ16_init dJ17_init_3 (j_peInit h it tm (d - 1) rt nk nx sz md v0 v1 v2 v3 (by omega) hi htm hne) (fun v_ h hq_ => ?_)
  obtain ⟨hv_, rfl⟩ := hq_; cases hv_
  refine x_vret (M := mJ17_init) (pc := 6) dJ17_init_6 rfl (by first | exact Nat.le_of_ble_eq_true rfl | omega) (by first | exact Nat.le_of_ble_eq_true rfl | omega) ?_
  exact ⟨rfl, rfl⟩
theorem j_keyIt (h : xH) (tm d : Nat) (hd : 3 ≤ d) (κ : Bool) (nk : Option Nat) (md : Int32) (ns : List Nat) (K : Nat → Nat) (V : Nat → Option Nat) (rk : Nat → Int) (hM : TM κ g h tm nk md ns K V rk) : Ct g l mJ21_keyIterator d 1 4 [.ref tm] h (fun o h' => ∃ it, o = .inl (some (.ref it)) ∧ h it = none ∧ h' = xu h it (.inr (33, [va_rf ns.head?, .null, .int md, .ref tm]))) := by
  obtain ⟨rt, sz, htm⟩ := hM.obj
  refine Ct.of [some (.ref tm)] (by decide +kernel) rfl (Nat.le_of_ble_eq_true rfl) rfl rfl ?_
  refine x_new (M := mJ21_keyIterator) (pc := 0) kcJ17 q874 dJ21_keyIterator_0 (by first | exact Nat.le_of_ble_eq_true rfl | omega) (by first | exact Nat.le_of_ble_eq_true rfl | omega) (fun q0_ hq0_ hb0_ => ?_)
  (try simp only [xu_noneI] at hq0_)
  repeat (obtain ⟨_, hq0_⟩ : _ ∧ _ := hq0_)
  refine x_dup (M := mJ21_keyIterator) (pc := 3) dJ21_keyIterator_3 ?_
  refine x_aload_n (M := mJ21_keyIterator) (pc := 4) dJ21_keyIterator_4 rfl ?_
  refine x_aload_n (M := mJ21_keyIterator) (pc := 5) dJ21_keyIterator_5 rfl ?_
  have hne : tm ≠ q0_ := fun e => by rw [← e, htm] at hq0_; cases hq0_
  have hM' := hM.le (h' := xu h q0_ (.inr (33, [.null, .null, .int 0, .null]))) (xle.fr hq0_)
  refine x_V0 (M := mJ21_keyIterator) (pc := 6) (M' := mJ21_getFirstEntry) q876 kVJ21_getFirstEntry dJ21_keyIterator_6 (j_gfe _ tm (d - 1) κ nk md ns K V rk hM') (xIs.of kcJ21 ((xu_n hne).trans htm)) (fun v_ h hq_ => ?_)
  obtain ⟨hv_, rfl⟩ := hq_; cases hv_
  refine x_I2 (M := mJ21_keyIterator) (pc := 9) (M' := mJ17_init) q880 kIJ17_init dJ21_keyIterator_9 (j_kiInit _ q0_ tm (d - 1) rt nk ns.head? sz md _ _ _ _ (by omega) (xu_s _ _ _) ((xu_n hne).trans htm) hne) (fun v_ h hq_ => ?_)
  obtain ⟨hv_, rfl⟩ := hq_; cases hv_; rw [xu_xu]
  refine x_aret (M := mJ21_keyIterator) (pc := 12) dJ21_keyIterator_12 rfl (by first | exact Or.inl ⟨_, rfl⟩ | exact Or.inr ⟨_, rfl⟩) (by first | exact Nat.le_of_ble_eq_true rfl | omega) (by first | exact Nat.le_of_ble_eq_true rfl | omega) ?_
  exact ⟨q0_, rfl, hq0_, rfl⟩
def KST (h : xH) (ks tm : Nat) : Prop := h ks = some (.inr (34, [.ref tm]))
theorem j_ksInit (h : xH) (ks tm d : Nat) (v0 : Value) (hd : 3 ≤ d) (hk : h ks = some (.inr (34, [v0]))) : Ct g l mJ19_init d 0 0 [.ref ks, .ref tm] h (fun o h' => o = .inl none ∧ h' = xu h ks (.inr (34, [.ref tm]))) := by
  refine Ct.of [some (.ref ks), some (.ref tm)] (by decide +kernel) rfl (Nat.le_of_ble_eq_true rfl) rfl rfl ?_
  refine x_aload_n (M := mJ19_init) (pc := 0) dJ19_init_0 rfl ?_
  refine x_I0 (M := mJ19_init) (pc := 1) (M' := mJ18_init) q921 kIJ18_init dJ19_init_1 (j_asInit h ks (d - 1) (by omega)) (fun v_ h hq_ => ?_)
  obtain ⟨hv_, rfl⟩ := hq_; cases hv_
  refine x_aload_n (M := mJ19_init) (pc := 4) dJ19_init_4 rfl ?_
  refine x_aload_n (M := mJ19_init) (pc := 5) dJ19_init_5 rfl ?_
  first | refine x_putF0' (M := mJ19_init) (pc := 6) kcJ19 q925 dJ19_init_6 ?_ | refine x_putF0 (M := mJ19_init) (pc := 6) kcJ19 q925 dJ19_init_6 (by first | assumption | exact xu_s _ _ _ | exact (xu_n (by first | assumption | exact Ne.symm (by assumption) | exact xu_fresh (by assumption) (by assumption) | exact (xu_fresh (by assumption) (by assumption)).symm)).trans (by first | assumption | exact xu_s _ _ _ | exact (xu_n (by first | assumption | exact Ne.symm (by assumption) | exact xu_fresh (by assumption) (by assumption) | exact (xu_fresh (by assumption) (by assumption)).symm)).trans (by first | assumption | exact xu_s _ _ _ | exact (xu_n (by first | assumption | exact Ne.symm (by assumption) | exact xu_fresh (by assumption) (by assumption) | exact (xu_fresh (by assumption) (by assumption)).symm)).trans (by first | assumption | exact xu_s _ _ _)))) ?_
  refine x_vret (M := mJ19_init) (pc := 9) dJ19_init_9 rfl (by first | exact Nat.le_of_ble_eq_true rfl | omega) (by first | exact Nat.le_of_ble_eq_true rfl | omega) ?_
  exact ⟨rfl, rfl⟩
theorem TM.nk {κ : Bool} {tm : Nat} {nk nk' : Option Nat} {rt : Option Nat} {sz md : Int32} {ns : List Nat} {K : Nat → Nat} {V : Nat → Option Nat} {rk : Nat → Int} (hM : TM κ g h tm nk md ns K V rk) (htm : h tm = some (tobj rt sz md nk)) : TM κ g (xu h tm (tobj rt sz md nk')) tm nk' md ns K V rk := by
  obtain ⟨sz', T, L, R, P, C, hio, hS, hT, hC, hpw, hK⟩ := hM
  have e : tRt T = rt ∧ sz' = sz := by
    have := hT.1; rw [htm] at this
    have h2 := Option.some.inj this
    simp only [tobj, Sum.inr.injEq, Prod.mk.injEq, List.cons.injEq, Value.int.injEq] at h2
    refine ⟨?_, by simp [h2]⟩
    have h3 : va_rf rt = va_rf (tRt T) := by simp [h2]
    cases hr : tRt T <;> cases rt <;> rw [hr] at h3 <;> simp [va_rf] at h3 ⊢
    exact h3.symm
  obtain ⟨e1, e2⟩ := e
  subst e1; subst e2
  have hF : TF tm ns h (xu h tm (tobj (tRt T) sz' md nk')) := TF.rf.obj _
  exact ⟨sz', T, L, R, P, C, hio, hS, hT.obj, hC, hpw, fun n hn => (hK n hn).keep hT hF⟩
/-- what keySet leaves of a map that had none -/
theorem j_nks (h : xH) (tm d : Nat) (hd : 4 ≤ d) (κ : Bool) (md : Int32) (ns : List Nat) (K : Nat → Nat) (V : Nat → Option Nat) (rk : Nat → Int) (hM : TM κ g h tm none md ns K V rk) : Ct g l mJ21_navigableKeySet d 1 1 [.ref tm] h (fun o h' => ∃ ks, o = .inl (some (.ref ks)) ∧ h ks = none ∧ KST h' ks tm ∧ TM κ g h' tm (some ks) md ns K V rk ∧ xle1 tm h h') := by
  obtain ⟨rt, sz, htm⟩ := hM.obj
  have htm0 := htm
  unfold tobj at htm
  refine Ct.of [some (.ref tm), none] (by decide +kernel) rfl (Nat.le_of_ble_eq_true rfl) rfl rfl ?_
  refine x_aload_n (M := mJ21_navigableKeySet) (pc := 0) dJ21_navigableKeySet_0 rfl ?_
  refine x_get (M := mJ21_navigableKeySet) (pc := 1) kcJ21 7 rfl q2091 dJ21_navigableKeySet_1 (by first | assumption | exact xu_s _ _ _ | exact (xu_n (by first | assumption | exact Ne.symm (by assumption) | exact xu_fresh (by assumption) (by assumption) | exact (xu_fresh (by assumption) (by assumption)).symm)).trans (by first | assumption | exact xu_s _ _ _ | exact (xu_n (by first | assumption | exact Ne.symm (by assumption) | exact xu_fresh (by assumption) (by assumption) | exact (xu_fresh (by assumption) (by assumption)).symm)).trans (by first | assumption | exact xu_s _ _ _ | exact (xu_n (by first | assumption | exact Ne.symm (by assumption) | exact xu_fresh (by assumption) (by assumption) | exact (xu_fresh (by assumption) (by assumption)).symm)).trans (by first | assumption | exact xu_s _ _ _)))) rfl ?_
  refine x_astore1 (M := mJ21_navigableKeySet) (pc := 4) dJ21_navigableKeySet_4 ?_
  refine x_aload_n (M := mJ21_navigableKeySet) (pc := 5) dJ21_navigableKeySet_5 rfl ?_
  refine x_ifnullN (M := mJ21_navigableKeySet) (pc := 6) 13 dJ21_navigableKeySet_6 (by decide) ?_
  refine x_aload_n (M := mJ21_navigableKeySet) (pc := 13) dJ21_navigableKeySet_13 rfl ?_
  refine x_new (M := mJ21_navigableKeySet) (pc := 14) kcJ19 q916 dJ21_navigableKeySet_14 (by first | exact Nat.le_of_ble_eq_true rfl | omega) (by first | exact Nat.le_of_ble_eq_true rfl | omega) (fun q14_ hq14_ hb14_ => ?_)
  (try simp only [xu_noneI] at hq14_)
  repeat (obtain ⟨_, hq14_⟩ : _ ∧ _ := hq14_)
  refine x_dup (M := mJ21_navigableKeySet) (pc := 17) dJ21_navigableKeySet_17 ?_
  refine x_aload_n (M := mJ21_navigableKeySet) (pc := 18) dJ21_navigableKeySet_18 rfl ?_
  have hne : tm ≠ q14_ := fun e => by rw [← e, htm] at hq14_; cases hq14_
  have hne' := hne.symm
  refine x_I1 (M := mJ21_navigableKeySet) (pc := 19) (M' := mJ19_init) q918 kIJ19_init dJ21_navigableKeySet_19 (j_ksInit _ q14_ tm (d - 1) _ (by omega) (xu_s _ _ _)) (fun v_ h hq_ => ?_)
  obtain ⟨hv_, rfl⟩ := hq_; cases hv_; rw [xu_xu]
  refine x_dup_x1 (M := mJ21_navigableKeySet) (pc := 22) dJ21_navigableKeySet_22 ?_
  first | refine x_put7' (M := mJ21_navigableKeySet) (pc := 23) kcJ21 q2091 dJ21_navigableKeySet_23 ?_ | refine x_put7 (M := mJ21_navigableKeySet) (pc := 23) kcJ21 q2091 dJ21_navigableKeySet_23 (by first | assumption | exact xu_s _ _ _ | exact (xu_n (by first | assumption | exact Ne.symm (by assumption) | exact xu_fresh (by assumption) (by assumption) | exact (xu_fresh (by assumption) (by assumption)).symm)).trans (by first | assumption | exact xu_s _ _ _ | exact (xu_n (by first | assumption | exact Ne.symm (by assumption) | exact xu_fresh (by assumption) (by assumption) | exact (xu_fresh (by assumption) (by assumption)).symm)).trans (by first | assumption | exact xu_s _ _ _ | exact (xu_n (by first | assumption | exact Ne.symm (by assumption) | exact xu_fresh (by assumption) (by assumption) | exact (xu_fresh (by assumption) (by assumption)).symm)).trans (by first | assumption | exact xu_s _ _ _)))) ?_
  refine x_aret (M := mJ21_navigableKeySet) (pc := 26) dJ21_navigableKeySet_26 rfl (by first | exact Or.inl ⟨_, rfl⟩ | exact Or.inr ⟨_, rfl⟩) (by first | exact Nat.le_of_ble_eq_true rfl | omega) (by first | exact Nat.le_of_ble_eq_true rfl | omega) ?_
  exact ⟨q14_, rfl, hq14_, (xu_n hne').trans (xu_s _ _ _), (hM.le (xle.fr hq14_)).nk (rt := rt) (sz := sz) (nk' := some q14_) ((xu_n hne).trans htm0), fun q e n1 z => (xu_n n1).trans (xle.fr hq14_ q e z)⟩
theorem j_keySet (h : xH) (tm d : Nat) (hd : 5 ≤ d) (κ : Bool) (md : Int32) (ns : List Nat) (K : Nat → Nat) (V : Nat → Option Nat) (rk : Nat → Int) (hM : TM κ g h tm none md ns K V rk) : Ct g l mJ21_keySet d 1 1 [.ref tm] h (fun o h' => ∃ ks, o = .inl (some (.ref ks)) ∧ h ks = none ∧ KST h' ks tm ∧ TM κ g h' tm (some ks) md ns K V rk ∧ xle1 tm h h') := by
  obtain ⟨rt, sz, htm⟩ := hM.obj
  refine Ct.of [some (.ref tm)] (by decide +kernel) rfl (Nat.le_of_ble_eq_true rfl) rfl rfl ?_
  refine x_aload_n (M := mJ21_keySet) (pc := 0) dJ21_keySet_0 rfl ?_
  refine x_V0 (M := mJ21_keySet) (pc := 1) (M' := mJ21_navigableKeySet) q2692 kVJ21_navigableKeySet dJ21_keySet_1 (j_nks h tm (d - 1) (by omega) κ md ns K V rk hM) (xIs.of kcJ21 htm) (fun v_ h hq_ => ?_)
  obtain ⟨ks, hv_, w⟩ := hq_; cases hv_
  refine x_aret (M := mJ21_keySet) (pc := 4) dJ21_keySet_4 rfl (by first | exact Or.inl ⟨_, rfl⟩ | exact Or.inr ⟨_, rfl⟩) (by first | exact Nat.le_of_ble_eq_true rfl | omega) (by first | exact Nat.le_of_ble_eq_true rfl | omega) ?_
  exact ⟨ks, rfl, w⟩
theorem j_ksIt (h : xH) (ks tm d : Nat) (hd : 4 ≤ d) (κ : Bool) (nk : Option Nat) (md : Int32) (ns : List Nat) (K : Nat → Nat) (V : Nat → Option Nat) (rk : Nat → Int) (hk : KST h ks tm) (hM : TM κ g h tm nk md ns K V rk) : Ct g l mJ19_iterator d 1 4 [.ref ks] h (fun o h' => ∃ it, o = .inl (some (.ref it)) ∧ h it = none ∧ h' = xu h it (.inr (33, [va_rf ns.head?, .null, .int md, .ref tm]))) := by
  obtain ⟨rt, sz, htm⟩ := hM.obj
  unfold KST at hk
  refine Ct.of [some (.ref ks)] (by decide +kernel) rfl (Nat.le_of_ble_eq_true rfl) rfl rfl ?_
  refine x_aload_n (M := mJ19_iterator) (pc := 0) dJ19_iterator_0 rfl ?_
  refine x_get (M := mJ19_iterator) (pc := 1) kcJ19 0 rfl q925 dJ19_iterator_1 (by first | assumption | exact xu_s _ _ _ | exact (xu_n (by first | assumption | exact Ne.symm (by assumption) | exact xu_fresh (by assumption) (by assumption) | exact (xu_fresh (by assumption) (by assumption)).symm)).trans (by first | assumption | exact xu_s _ _ _ | exact (xu_n (by first | assumption | exact Ne.symm (by assumption) | exact xu_fresh (by assumption) (by assumption) | exact (xu_fresh (by assumption) (by assumption)).symm)).trans (by first | assumption | exact xu_s _ _ _ | exact (xu_n (by first | assumption | exact Ne.symm (by assumption) | exact xu_fresh (by assumption) (by assumption) | exact (xu_fresh (by assumption) (by assumption)).symm)).trans (by first | assumption | exact xu_s _ _ _)))) rfl ?_
  refine x_instSame (M := mJ19_iterator) (pc := 4) q869 dJ19_iterator_4 (xIs.of kcJ21 htm) ?_
  refine x_if_eq (M := mJ19_iterator) (pc := 7) 21 dJ19_iterator_7 (by decide) (fun z => absurd z (by decide)) (fun _ => ?_)
  refine x_aload_n (M := mJ19_iterator) (pc := 10) dJ19_iterator_10 rfl ?_
  refine x_get (M := mJ19_iterator) (pc := 11) kcJ19 0 rfl q925 dJ19_iterator_11 (by first | assumption | exact xu_s _ _ _ | exact (xu_n (by first | assumption | exact Ne.symm (by assumption) | exact xu_fresh (by assumption) (by assumption) | exact (xu_fresh (by assumption) (by assumption)).symm)).trans (by first | assumption | exact xu_s _ _ _ | exact (xu_n (by first | assumption | exact Ne.symm (by assumption) | exact xu_fresh (by assumption) (by assumption) | exact (xu_fresh (by assumption) (by assumption)).symm)).trans (by first | assumption | exact xu_s _ _ _ | exact (xu_n (by first | assumption | exact Ne.symm (by assumption) | exact xu_fresh (by assumption) (by assumption) | exact (xu_fresh (by assumption) (by assumption)).symm)).trans (by first | assumption | exact xu_s _ _ _)))) rfl ?_
  refine x_cast (M := mJ19_iterator) (pc := 14) q869 dJ19_iterator_14 (xIs.of kcJ21 htm) (Or.inl rfl) ?_
  refine x_V0 (M := mJ19_iterator) (pc := 17) (M' := mJ21_keyIterator) q870 kVJ21_keyIterator dJ19_iterator_17 (j_keyIt h tm (d - 1) (by omega) κ nk md ns K V rk hM) (xIs.of kcJ21 htm) (fun v_ h hq_ => ?_)
  obtain ⟨it, hv_, w⟩ := hq_; cases hv_
  refine x_aret (M := mJ19_iterator) (pc := 20) dJ19_iterator_20 rfl (by first | exact Or.inl ⟨_, rfl⟩ | exact Or.inr ⟨_, rfl⟩) (by first | exact Nat.le_of_ble_eq_true rfl | omega) (by first | exact Nat.le_of_ble_eq_true rfl | omega) ?_
  exact ⟨it, rfl, w⟩
theorem j_kiHas (h : xH) (it tm d : Nat) (md : Int32) (nx : Option Nat) (hI : KIT h it tm md nx) : Ct g l mJ16_hasNext d 0 0 [.ref it] h (fun o h' => o = .inl (some (.int (bI nx.isSome))) ∧ h' = h) := by
  obtain ⟨lr, hi⟩ := hI
  refine Ct.of [some (.ref it)] (by decide +kernel) rfl (Nat.le_of_ble_eq_true rfl) rfl rfl ?_
  refine x_aload_n (M := mJ16_hasNext) (pc := 0) dJ16_hasNext_0 rfl ?_
  refine x_get (M := mJ16_hasNext) (pc := 1) kcJ17 0 rfl q887 dJ16_hasNext_1 (by first | assumption | exact xu_s _ _ _ | exact (xu_n (by first | assumption | exact Ne.symm (by assumption) | exact xu_fresh (by assumption) (by assumption) | exact (xu_fresh (by assumption) (by assumption)).symm)).trans (by first | assumption | exact xu_s _ _ _ | exact (xu_n (by first | assumption | exact Ne.symm (by assumption) | exact xu_fresh (by assumption) (by assumption) | exact (xu_fresh (by assumption) (by assumption)).symm)).trans (by first | assumption | exact xu_s _ _ _ | exact (xu_n (by first | assumption | exact Ne.symm (by assumption) | exact xu_fresh (by assumption) (by assumption) | exact (xu_fresh (by assumption) (by assumption)).symm)).trans (by first | assumption | exact xu_s _ _ _)))) rfl ?_
  cases nx with
  | none =>
    refine x_ifnullN (M := mJ16_hasNext) (pc := 4) 11 dJ16_hasNext_4 (by decide) ?_
    refine x_iconst (M := mJ16_hasNext) (pc := 11) (v := nI 0) dJ16_hasNext_11 (by decide) ?_
    refine x_zret (M := mJ16_hasNext) (pc := 12) dJ16_hasNext_12 rfl (by first | with_reducible exact xz0 | with_reducible exact xz1 | with_reducible exact bI_01 _ | with_reducible assumption | assumption) (by first | exact Nat.le_of_ble_eq_true rfl | omega) (by first | exact Nat.le_of_ble_eq_true rfl | omega) ?_
    exact ⟨rfl, rfl⟩
  | some n =>
    refine x_ifnullR (M := mJ16_hasNext) (pc := 4) dJ16_hasNext_4 ?_
    refine x_iconst (M := mJ16_hasNext) (pc := 7) (v := nI 1) dJ16_hasNext_7 (by decide) ?_
    refine x_goto (M := mJ16_hasNext) (pc := 8) 12 dJ16_hasNext_8 (by decide) ?_
    refine x_zret (M := mJ16_hasNext) (pc := 12) dJ16_hasNext_12 rfl (by first | with_reducible exact xz0 | with_reducible exact xz1 | with_reducible exact bI_01 _ | with_reducible assumption | assumption) (by first | exact Nat.le_of_ble_eq_true rfl | omega) (by first | exact Nat.le_of_ble_eq_true rfl | omega) ?_
    exact ⟨rfl, rfl⟩
theorem j_kiEnt (h : xH) (it tm x d : Nat) (hd : 1 ≤ d) (κ : Bool) (nk : Option Nat) (md : Int32) (l1 l2 : List Nat) (K : Nat → Nat) (V : Nat → Option Nat) (rk : Nat → Int) (hM : TM κ g h tm nk md (l1 ++ x :: l2) K V rk) (hI : KIT h it tm md (some x)) : Ct g l mJ16_nextEntry d 0 0 [.ref it] h (fun o h' => o = .inl (some (.ref x)) ∧ KIT h' it tm md l2.head? ∧ xle1 it h h') := by
  obtain ⟨rt, sz, htm⟩ := hM.obj
  unfold tobj at htm
  obtain ⟨lr, hi⟩ := hI
  refine Ct.of [some (.ref it), none] (by decide +kernel) rfl (Nat.le_of_ble_eq_true rfl) rfl rfl ?_
  refine x_aload_n (M := mJ16_nextEntry) (pc := 0) dJ16_nextEntry_0 rfl ?_
  refine x_get (M := mJ16_nextEntry) (pc := 1) kcJ17 0 rfl q887 dJ16_nextEntry_1 (by first | assumption | exact xu_s _ _ _ | exact (xu_n (by first | assumption | exact Ne.symm (by assumption) | exact xu_fresh (by assumption) (by assumption) | exact (xu_fresh (by assumption) (by assumption)).symm)).trans (by first | assumption | exact xu_s _ _ _ | exact (xu_n (by first | assumption | exact Ne.symm (by assumption) | exact xu_fresh (by assumption) (by assumption) | exact (xu_fresh (by assumption) (by assumption)).symm)).trans (by first | assumption | exact xu_s _ _ _ | exact (xu_n (by first | assumption | exact Ne.symm (by assumption) | exact xu_fresh (by assumption) (by assumption) | exact (xu_fresh (by assumption) (by assumption)).symm)).trans (by first | assumption | exact xu_s _ _ _)))) rfl ?_
  refine x_astore1 (M := mJ16_nextEntry) (pc := 4) dJ16_nextEntry_4 ?_
  refine x_aload_n (M := mJ16_nextEntry) (pc := 5) dJ16_nextEntry_5 rfl ?_
  refine x_ifnonnullR (M := mJ16_nextEntry) (pc := 6) 17 dJ16_nextEntry_6 (by decide) ?_
  refine x_aload_n (M := mJ16_nextEntry) (pc := 17) dJ16_nextEntry_17 rfl ?_
  refine x_get (M := mJ16_nextEntry) (pc := 18) kcJ17 3 rfl q890 dJ16_nextEntry_18 (by first | assumption | exact xu_s _ _ _ | exact (xu_n (by first | assumption | exact Ne.symm (by assumption) | exact xu_fresh (by assumption) (by assumption) | exact (xu_fresh (by assumption) (by assumption)).symm)).trans (by first | assumption | exact xu_s _ _ _ | exact (xu_n (by first | assumption | exact Ne.symm (by assumption) | exact xu_fresh (by assumption) (by assumption) | exact (xu_fresh (by assumption) (by assumption)).symm)).trans (by first | assumption | exact xu_s _ _ _ | exact (xu_n (by first | assumption | exact Ne.symm (by assumption) | exact xu_fresh (by assumption) (by assumption) | exact (xu_fresh (by assumption) (by assumption)).symm)).trans (by first | assumption | exact xu_s _ _ _)))) rfl ?_
  refine x_getN (M := mJ16_nextEntry) (pc := 21) kcJ21 5 rfl q2089 dJ16_nextEntry_21 (by first | assumption | exact xu_s _ _ _ | exact (xu_n (by first | assumption | exact Ne.symm (by assumption) | exact xu_fresh (by assumption) (by assumption) | exact (xu_fresh (by assumption) (by assumption)).symm)).trans (by first | assumption | exact xu_s _ _ _ | exact (xu_n (by first | assumption | exact Ne.symm (by assumption) | exact xu_fresh (by assumption) (by assumption) | exact (xu_fresh (by assumption) (by assumption)).symm)).trans (by first | assumption | exact xu_s _ _ _ | exact (xu_n (by first | assumption | exact Ne.symm (by assumption) | exact xu_fresh (by assumption) (by assumption) | exact (xu_fresh (by assumption) (by assumption)).symm)).trans (by first | assumption | exact xu_s _ _ _)))) rfl ?_
  refine x_aload_n (M := mJ16_nextEntry) (pc := 24) dJ16_nextEntry_24 rfl ?_
  refine x_get (M := mJ16_nextEntry) (pc := 25) kcJ17 2 rfl q889 dJ16_nextEntry_25 (by first | assumption | exact xu_s _ _ _ | exact (xu_n (by first | assumption | exact Ne.symm (by assumption) | exact xu_fresh (by assumption) (by assumption) | exact (xu_fresh (by assumption) (by assumption)).symm)).trans (by first | assumption | exact xu_s _ _ _ | exact (xu_n (by first | assumption | exact Ne.symm (by assumption) | exact xu_fresh (by assumption) (by assumption) | exact (xu_fresh (by assumption) (by assumption)).symm)).trans (by first | assumption | exact xu_s _ _ _ | exact (xu_n (by first | assumption | exact Ne.symm (by assumption) | exact xu_fresh (by assumption) (by assumption) | exact (xu_fresh (by assumption) (by assumption)).symm)).trans (by first | assumption | exact xu_s _ _ _)))) rfl ?_
  refine x_icmp_eq (M := mJ16_nextEntry) (pc := 28) 39 dJ16_nextEntry_28 (by decide) (fun _ => ?_) (fun z => absurd rfl z)
  refine x_aload_n (M := mJ16_nextEntry) (pc := 39) dJ16_nextEntry_39 rfl ?_
  refine x_aload_n (M := mJ16_nextEntry) (pc := 40) dJ16_nextEntry_40 rfl ?_
  refine x_S1 (M := mJ16_nextEntry) (pc := 41) (M' := mJ21_successor) q1026 kSJ21_successor dJ16_nextEntry_41 (j_succ h tm x (d - 1) κ nk md l1 l2 K V rk hM) (fun v_ h hq_ => ?_)
  obtain ⟨hv_, rfl⟩ := hq_; cases hv_
  skip
  generalize l2.head? = nx
  cases nx with
  | none =>
    show X g l _ _ _ _ _ _ _ [.null, .ref it] _ _ _
    first | refine x_put0' (M := mJ16_nextEntry) (pc := 44) kcJ17 q887 dJ16_nextEntry_44 ?_ | refine x_put0 (M := mJ16_nextEntry) (pc := 44) kcJ17 q887 dJ16_nextEntry_44 (by first | assumption | exact xu_s _ _ _ | exact (xu_n (by first | assumption | exact Ne.symm (by assumption) | exact xu_fresh (by assumption) (by assumption) | exact (xu_fresh (by assumption) (by assumption)).symm)).trans (by first | assumption | exact xu_s _ _ _ | exact (xu_n (by first | assumption | exact Ne.symm (by assumption) | exact xu_fresh (by assumption) (by assumption) | exact (xu_fresh (by assumption) (by assumption)).symm)).trans (by first | assumption | exact xu_s _ _ _ | exact (xu_n (by first | assumption | exact Ne.symm (by assumption) | exact xu_fresh (by assumption) (by assumption) | exact (xu_fresh (by assumption) (by assumption)).symm)).trans (by first | assumption | exact xu_s _ _ _)))) ?_
    refine x_aload_n (M := mJ16_nextEntry) (pc := 47) dJ16_nextEntry_47 rfl ?_
    refine x_aload_n (M := mJ16_nextEntry) (pc := 48) dJ16_nextEntry_48 rfl ?_
    first | refine x_put1' (M := mJ16_nextEntry) (pc := 49) kcJ17 q888 dJ16_nextEntry_49 ?_ | refine x_put1 (M := mJ16_nextEntry) (pc := 49) kcJ17 q888 dJ16_nextEntry_49 (by first | assumption | exact xu_s _ _ _ | exact (xu_n (by first | assumption | exact Ne.symm (by assumption) | exact xu_fresh (by assumption) (by assumption) | exact (xu_fresh (by assumption) (by assumption)).symm)).trans (by first | assumption | exact xu_s _ _ _ | exact (xu_n (by first | assumption | exact Ne.symm (by assumption) | exact xu_fresh (by assumption) (by assumption) | exact (xu_fresh (by assumption) (by assumption)).symm)).trans (by first | assumption | exact xu_s _ _ _ | exact (xu_n (by first | assumption | exact Ne.symm (by assumption) | exact xu_fresh (by assumption) (by assumption) | exact (xu_fresh (by assumption) (by assumption)).symm)).trans (by first | assumption | exact xu_s _ _ _)))) ?_
    refine x_aload_n (M := mJ16_nextEntry) (pc := 52) dJ16_nextEntry_52 rfl ?_
    refine x_aret (M := mJ16_nextEntry) (pc := 53) dJ16_nextEntry_53 rfl (by first | exact Or.inl ⟨_, rfl⟩ | exact Or.inr ⟨_, rfl⟩) (by first | exact Nat.le_of_ble_eq_true rfl | omega) (by first | exact Nat.le_of_ble_eq_true rfl | omega) ?_
    exact ⟨rfl, ⟨some x, xu_s _ _ _⟩, fun q e n1 z => (xu_n n1).trans z⟩
  | some n =>
    show X g l _ _ _ _ _ _ _ [.ref n, .ref it] _ _ _
    first | refine x_put0' (M := mJ16_nextEntry) (pc := 44) kcJ17 q887 dJ16_nextEntry_44 ?_ | refine x_put0 (M := mJ16_nextEntry) (pc := 44) kcJ17 q887 dJ16_nextEntry_44 (by first | assumption | exact xu_s _ _ _ | exact (xu_n (by first | assumption | exact Ne.symm (by assumption) | exact xu_fresh (by assumption) (by assumption) | exact (xu_fresh (by assumption) (by assumption)).symm)).trans (by first | assumption | exact xu_s _ _ _ | exact (xu_n (by first | assumption | exact Ne.symm (by assumption) | exact xu_fresh (by assumption) (by assumption) | exact (xu_fresh (by assumption) (by assumption)).symm)).trans (by first | assumption | exact xu_s _ _ _ | exact (xu_n (by first | assumption | exact Ne.symm (by assumption) | exact xu_fresh (by assumption) (by assumption) | exact (xu_fresh (by assumption) (by assumption)).symm)).trans (by first | assumption | exact xu_s _ _ _)))) ?_
    refine x_aload_n (M := mJ16_nextEntry) (pc := 47) dJ16_nextEntry_47 rfl ?_
    refine x_aload_n (M := mJ16_nextEntry) (pc := 48) dJ16_nextEntry_48 rfl ?_
    first | refine x_put1' (M := mJ16_nextEntry) (pc := 49) kcJ17 q888 dJ16_nextEntry_49 ?_ | refine x_put1 (M := mJ16_nextEntry) (pc := 49) kcJ17 q888 dJ16_nextEntry_49 (by first | assumption | exact xu_s _ _ _ | exact (xu_n (by first | assumption | exact Ne.symm (by assumption) | exact xu_fresh (by assumption) (by assumption) | exact (xu_fresh (by assumption) (by assumption)).symm)).trans (by first | assumption | exact xu_s _ _ _ | exact (xu_n (by first | assumption | exact Ne.symm (by assumption) | exact xu_fresh (by assumption) (by assumption) | exact (xu_fresh (by assumption) (by assumption)).symm)).trans (by first | assumption | exact xu_s _ _ _ | exact (xu_n (by first | assumption | exact Ne.symm (by assumption) | exact xu_fresh (by assumption) (by assumption) | exact (xu_fresh (by assumption) (by assumption)).symm)).trans (by first | assumption | exact xu_s _ _ _)))) ?_
    refine x_aload_n (M := mJ16_nextEntry) (pc := 52) dJ16_nextEntry_52 rfl ?_
    refine x_aret (M := mJ16_nextEntry) (pc := 53) dJ16_nextEntry_53 rfl (by first | exact Or.inl ⟨_, rfl⟩ | exact Or.inr ⟨_, rfl⟩) (by first | exact Nat.le_of_ble_eq_true rfl | omega) (by first | exact Nat.le_of_ble_eq_true rfl | omega) ?_
    exact ⟨rfl, ⟨some x, xu_s _ _ _⟩, fun q e n1 z => (xu_n n1).trans z⟩
theorem j_kiNext (h : xH) (it tm x d : Nat) (hd : 2 ≤ d) (κ : Bool) (nk : Option Nat) (md : Int32) (l1 l2 : List Nat) (K : Nat → Nat) (V : Nat → Option Nat) (rk : Nat → Int) (hM : TM κ g h tm nk md (l1 ++ x :: l2) K V rk) (hI : KIT h it tm md (some x)) : Ct g l mJ17_next d 0 0 [.ref it] h (fun o h' => o = .inl (some (.ref (K x))) ∧ KIT h' it tm md l2.head? ∧ xle1 it h h') := by
  obtain ⟨vs, hx⟩ := hM.cel x (by simp)
  have hi := hI
  obtain ⟨lr, hi⟩ := hi
  have hne : x ≠ it := fun e => by rw [e, hi] at hx; cases hx
  refine Ct.of [some (.ref it)] (by decide +kernel) rfl (Nat.le_of_ble_eq_true rfl) rfl rfl ?_
  refine x_aload_n (M := mJ17_next) (pc := 0) dJ17_next_0 rfl ?_
  refine x_U0 (M := mJ17_next) (pc := 1) (M' := mJ16_nextEntry) q1020 q1021 q1023 q1024 kCJ16_nextEntry dJ17_next_1 (j_kiEnt h it tm x (d - 1) (by omega) κ nk md l1 l2 K V rk hM hI) (xIs.of kcJ17 hi) (fun v_ h hq_ => ?_)
  obtain ⟨hv_, w1, w2⟩ := hq_; cases hv_
  have hx := w2 x _ hne hx
  refine x_get (M := mJ17_next) (pc := 4) kcJ32 0 rfl q2546 dJ17_next_4 (by first | assumption | exact xu_s _ _ _ | exact (xu_n (by first | assumption | exact Ne.symm (by assumption) | exact xu_fresh (by assumption) (by assumption) | exact (xu_fresh (by assumption) (by assumption)).symm)).trans (by first | assumption | exact xu_s _ _ _ | exact (xu_n (by first | assumption | exact Ne.symm (by assumption) | exact xu_fresh (by assumption) (by assumption) | exact (xu_fresh (by assumption) (by assumption)).symm)).trans (by first | assumption | exact xu_s _ _ _ | exact (xu_n (by first | assumption | exact Ne.symm (by assumption) | exact xu_fresh (by assumption) (by assumption) | exact (xu_fresh (by assumption) (by assumption)).symm)).trans (by first | assumption | exact xu_s _ _ _)))) rfl ?_
  refine x_aret (M := mJ17_next) (pc := 7) dJ17_next_7 rfl (by first | exact Or.inl ⟨_, rfl⟩ | exact Or.inr ⟨_, rfl⟩) (by first | exact Nat.le_of_ble_eq_true rfl | omega) (by first | exact Nat.le_of_ble_eq_true rfl | omega) ?_
  exact ⟨rfl, w1, w2⟩
theorem qIF_kH : xIF "java/util/TreeMap$KeyIterator" xItH mJ16_hasNext 0 := ⟨q968, q970, kCJ16_hasNext, by decide +kernel, rfl, by decide +kernel⟩
theorem qIF_kN : xIF "java/util/TreeMap$KeyIterator" xItN mJ17_next 0 := ⟨q1015, q1017, kCJ17_next, by decide +kernel, rfl, by decide +kernel⟩
theorem qIF_nks : xIF "java/util/TreeMap" ⟨"java/util/NavigableMap", "navigableKeySet", "()Ljava/util/NavigableSet;"⟩ mJ21_navigableKeySet 0 := ⟨q911, q913, kVJ21_navigableKeySet.1, by decide +kernel, rfl, by decide +kernel⟩
theorem qIF_nsI : xIF "java/util/TreeMap$KeySet" ⟨"java/util/NavigableSet", "iterator", "()Ljava/util/Iterator;"⟩ mJ19_iterator 0 := ⟨q934, q867, kCJ19_iterator, by decide +kernel, rfl, by decide +kernel⟩
theorem qIF_stI : xIF "java/util/TreeMap$KeySet" ⟨"java/util/Set", "iterator", "()Ljava/util/Iterator;"⟩ mJ19_iterator 0 := ⟨q2698, q867, kCJ19_iterator, by decide +kernel, rfl, by decide +kernel⟩
end JDKTS

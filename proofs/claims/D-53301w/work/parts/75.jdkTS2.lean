/-! java.util.TreeSet -/
section JDKTS2
set_option maxRecDepth 100000
variable {g : xG} {l : Launch} {h h0 : xH}
def TST (h : xH) (ts tm : Nat) : Prop := h ts = some (.inr (38, [.ref tm]))
theorem j_tsInit2 (h : xH) (ts tm d : Nat) (v0 : Value) (hd : 3 ≤ d) (hk : h ts = some (.inr (38, [v0]))) : Ct g l mJ33_init_2 d 0 0 [.ref ts, .ref tm] h (fun o h' => o = .inl none ∧ h' = xu h ts (.inr (38, [.ref tm]))) := by
  refine Ct.of [some (.ref ts), some (.ref tm)] (by decide +kernel) rfl (Nat.le_of_ble_eq_true rfl) rfl rfl ?_
  refine x_aload_n (M := mJ33_init_2) (pc := 0) dJ33_init_2_0 rfl ?_
  refine x_I0 (M := mJ33_init_2) (pc := 1) (M' := mJ18_init) q2782 kIJ18_init dJ33_init_2_1 (j_asInit h ts (d - 1) (by omega)) (fun v_ h hq_ => ?_)
  obtain ⟨hv_, rfl⟩ := hq_; cases hv_
  refine x_aload_n (M := mJ33_init_2) (pc := 4) dJ33_init_2_4 rfl ?_
  refine x_aload_n (M := mJ33_init_2) (pc := 5) dJ33_init_2_5 rfl ?_
  first | refine x_put0' (M := mJ33_init_2) (pc := 6) kcJ33 q2783 dJ33_init_2_6 ?_ | refine x_put0 (M := mJ33_init_2) (pc := 6) kcJ33 q2783 dJ33_init_2_6 (by first | assumption | exact xu_s _ _ _ | exact (xu_n (by first | assumption | exact Ne.symm (by assumption) | exact xu_fresh (by assumption) (by assumption) | exact (xu_fresh (by assumption) (by assumption)).symm)).trans (by first | assumption | exact xu_s _ _ _ | exact (xu_n (by first | assumption | exact Ne.symm (by assumption) | exact xu_fresh (by assumption) (by assumption) | exact (xu_fresh (by assumption) (by assumption)).symm)).trans (by first | assumption | exact xu_s _ _ _ | exact (xu_n (by first | assumption | exact Ne.symm (by assumption) | exact xu_fresh (by assumption) (by assumption) | exact (xu_fresh (by assumption) (by assumption)).symm)).trans (by first | assumption | exact xu_s _ _ _)))) ?_
  refine x_vret (M := mJ33_init_2) (pc := 9) dJ33_init_2_9 rfl (by first | exact Nat.le_of_ble_eq_true rfl | omega) (by first | exact Nat.le_of_ble_eq_true rfl | omega) ?_
  exact ⟨rfl, rfl⟩
theorem j_tsInit (h : xH) (ts d : Nat) (v0 : Value) (hd : 4 ≤ d) (hk : h ts = some (.inr (38, [v0]))) : Ct g l mJ33_init d 1 9 [.ref ts] h (fun o h' => o = .inl none ∧ ∃ tm, h tm = none ∧ TST h' ts tm ∧ (∀ K V rk, TM true g h' tm none 0 [] K V rk) ∧ xle1 ts h h') := by
  refine Ct.of [some (.ref ts)] (by decide +kernel) rfl (Nat.le_of_ble_eq_true rfl) rfl rfl ?_
  refine x_aload_n (M := mJ33_init) (pc := 0) dJ33_init_0 rfl ?_
  refine x_new (M := mJ33_init) (pc := 1) kcJ21 q2777 dJ33_init_1 (by first | exact Nat.le_of_ble_eq_true rfl | omega) (by first | exact Nat.le_of_ble_eq_true rfl | omega) (fun q1_ hq1_ hb1_ => ?_)
  (try simp only [xu_noneI] at hq1_)
  repeat (obtain ⟨_, hq1_⟩ : _ ∧ _ := hq1_)
  refine x_dup (M := mJ33_init) (pc := 4) dJ33_init_4 ?_
  have hne : ts ≠ q1_ := fun e => by rw [← e, hk] at hq1_; cases hq1_
  have hne' := hne.symm
  refine x_I0 (M := mJ33_init) (pc := 5) (M' := mJ21_init) q2778 kIJ21_init dJ33_init_5 (j_tmInit _ q1_ (d - 1) (by omega) (xu_s _ _ _)) (fun v_ h hq_ => ?_)
  obtain ⟨hv_, rfl⟩ := hq_; cases hv_
  refine x_I1 (M := mJ33_init) (pc := 8) (M' := mJ33_init_2) q2779 kIJ33_init_2 dJ33_init_8 (j_tsInit2 _ ts q1_ (d - 1) v0 (by omega) ((xu_n hne).trans hk)) (fun v_ h hq_ => ?_)
  obtain ⟨hv_, rfl⟩ := hq_; cases hv_
  refine x_vret (M := mJ33_init) (pc := 11) dJ33_init_11 rfl (by first | exact Nat.le_of_ble_eq_true rfl | omega) (by first | exact Nat.le_of_ble_eq_true rfl | omega) ?_
  exact ⟨rfl, q1_, hq1_, xu_s _ _ _, fun K V rk => TM.emp (sz := 0) (md := 0) K V rk ((xu_n hne').trans (xu_s _ _ _)), fun q e n1 z => (xu_n n1).trans (xle.fr hq1_ q e z)⟩
theorem PUT.ts {κ : Bool} {h' : xH} {tm ts a : Nat} {nk : Option Nat} {md : Int32} {ns : List Nat} {K : Nat → Nat} {V : Nat → Option Nat} {rk : Nat → Int} {v res : Option Nat} {r : Int} (hM : TM κ g h tm nk md ns K V rk) (hP : PUT κ g h tm nk ns K V rk a v r res h') (c : Nat) (fs : List Value) (h1 : c ≠ 35) (h2 : c ≠ 37) (hs : h ts = some (.inr (c, fs))) : h' ts = some (.inr (c, fs)) := by
  obtain ⟨x, ns', K', V', rk', md', -, hF, -⟩ := hP
  obtain ⟨rt, sz, htm⟩ := hM.obj
  refine hF ts _ (fun e => ?_) (fun e => ?_) hs
  · subst e; rw [htm] at hs; cases hs; exact h1 rfl
  · obtain ⟨vs, hn⟩ := hM.cel ts e; rw [hn] at hs; cases hs; exact h2 rfl
theorem j_tsAdd (h : xH) (ts tm a d : Nat) (hd : 7 ≤ d) (κ : Bool) (r : Int) (nk : Option Nat) (md : Int32) (ns : List Nat) (K : Nat → Nat) (V : Nat → Option Nat) (rk : Nat → Int) (hs : TST h ts tm) (hM : TM κ g h tm nk md ns K V rk) (hk : CK κ g h a r) : Ct g l mJ33_add d 1 6 [.ref ts, .ref a] h (fun o h' => (∃ w, o = .inl (some (.int w))) ∧ TST h' ts tm ∧ ∃ v res, PUT κ g h tm nk ns K V rk a v r res h') := by
  obtain ⟨rt, sz, htm⟩ := hM.obj
  have hs0 := hs
  unfold TST at hs
  refine Ct.of [some (.ref ts), some (.ref a)] (by decide +kernel) rfl (Nat.le_of_ble_eq_true rfl) rfl rfl ?_
  refine x_aload_n (M := mJ33_add) (pc := 0) dJ33_add_0 rfl ?_
  refine x_get (M := mJ33_add) (pc := 1) kcJ33 0 rfl q2783 dJ33_add_1 (by first | assumption | exact xu_s _ _ _ | exact (xu_n (by first | assumption | exact Ne.symm (by assumption) | exact xu_fresh (by assumption) (by assumption) | exact (xu_fresh (by assumption) (by assumption)).symm)).trans (by first | assumption | exact xu_s _ _ _ | exact (xu_n (by first | assumption | exact Ne.symm (by assumption) | exact xu_fresh (by assumption) (by assumption) | exact (xu_fresh (by assumption) (by assumption)).symm)).trans (by first | assumption | exact xu_s _ _ _ | exact (xu_n (by first | assumption | exact Ne.symm (by assumption) | exact xu_fresh (by assumption) (by assumption) | exact (xu_fresh (by assumption) (by assumption)).symm)).trans (by first | assumption | exact xu_s _ _ _)))) rfl ?_
  refine x_aload_n (M := mJ33_add) (pc := 4) dJ33_add_4 rfl ?_
  refine x_gets (M := mJ33_add) (pc := 5) 4 q2816 dJ33_add_5 rfl ?_
  refine x_Put (M := mJ33_add) (pc := 8) rfl dJ33_add_8 (j_put h tm a (some (xca g 0 3)) (d - 1) (by omega) κ r nk md ns K V rk hM hk) (xIs.of kcJ21 htm) (by omega) (Nat.le_of_ble_eq_true rfl) (Nat.le_of_ble_eq_true rfl) (by intro q h' hh; simp at hh) (Nat.le_of_ble_eq_true rfl) (fun v_ h1 hq_ => ?_)
  obtain ⟨res, hv_, hP⟩ := hq_; cases hv_
  have hts := hP.ts hM _ _ (by decide) (by decide) hs
  cases res with
  | none =>
    refine x_ifnonnullN (M := mJ33_add) (pc := 13) dJ33_add_13 ?_
    refine x_iconst (M := mJ33_add) (pc := 16) (v := nI 1) dJ33_add_16 (by decide) ?_
    refine x_goto (M := mJ33_add) (pc := 17) 21 dJ33_add_17 (by decide) ?_
    refine x_zret (M := mJ33_add) (pc := 21) dJ33_add_21 rfl (by first | with_reducible exact xz0 | with_reducible exact xz1 | with_reducible exact bI_01 _ | with_reducible assumption | assumption) (by first | exact Nat.le_of_ble_eq_true rfl | omega) (by first | exact Nat.le_of_ble_eq_true rfl | omega) ?_
    exact ⟨⟨_, rfl⟩, hts, _, _, hP⟩
  | some r' =>
    refine x_ifnonnullR (M := mJ33_add) (pc := 13) 20 dJ33_add_13 (by decide) ?_
    refine x_iconst (M := mJ33_add) (pc := 20) (v := nI 0) dJ33_add_20 (by decide) ?_
    refine x_zret (M := mJ33_add) (pc := 21) dJ33_add_21 rfl (by first | with_reducible exact xz0 | with_reducible exact xz1 | with_reducible exact bI_01 _ | with_reducible assumption | assumption) (by first | exact Nat.le_of_ble_eq_true rfl | omega) (by first | exact Nat.le_of_ble_eq_true rfl | omega) ?_
    exact ⟨⟨_, rfl⟩, hts, _, _, hP⟩
theorem j_tsIter (h : xH) (ts tm d : Nat) (hd : 5 ≤ d) (κ : Bool) (md : Int32) (ns : List Nat) (K : Nat → Nat) (V : Nat → Option Nat) (rk : Nat → Int) (hs : TST h ts tm) (hM : TM κ g h tm none md ns K V rk) : Ct g l mJ33_iterator d 2 5 [.ref ts] h (fun o h' => ∃ it ks, o = .inl (some (.ref it)) ∧ h it = none ∧ KIT h' it tm md ns.head? ∧ TM κ g h' tm (some ks) md ns K V rk ∧ xle1 tm h h') := by
  obtain ⟨rt, sz, htm⟩ := hM.obj
  unfold TST at hs
  refine Ct.of [some (.ref ts)] (by decide +kernel) rfl (Nat.le_of_ble_eq_true rfl) rfl rfl ?_
  refine x_aload_n (M := mJ33_iterator) (pc := 0) dJ33_iterator_0 rfl ?_
  refine x_get (M := mJ33_iterator) (pc := 1) kcJ33 0 rfl q2783 dJ33_iterator_1 (by first | assumption | exact xu_s _ _ _ | exact (xu_n (by first | assumption | exact Ne.symm (by assumption) | exact xu_fresh (by assumption) (by assumption) | exact (xu_fresh (by assumption) (by assumption)).symm)).trans (by first | assumption | exact xu_s _ _ _ | exact (xu_n (by first | assumption | exact Ne.symm (by assumption) | exact xu_fresh (by assumption) (by assumption) | exact (xu_fresh (by assumption) (by assumption)).symm)).trans (by first | assumption | exact xu_s _ _ _ | exact (xu_n (by first | assumption | exact Ne.symm (by assumption) | exact xu_fresh (by assumption) (by assumption) | exact (xu_fresh (by assumption) (by assumption)).symm)).trans (by first | assumption | exact xu_s _ _ _)))) rfl ?_
  refine x_IF0 (M := mJ33_iterator) (pc := 4) (M' := mJ21_navigableKeySet) q908 qIF_nks dJ33_iterator_4 (j_nks h tm (d - 1) (by omega) κ md ns K V rk hM) (xIs.of kcJ21 htm) (fun v_ h1 hq_ => ?_)
  obtain ⟨ks, hv_, w1, w2, w3, w4⟩ := hq_; cases hv_
  refine x_IF0 (M := mJ33_iterator) (pc := 9) (M' := mJ19_iterator) q930 qIF_nsI dJ33_iterator_9 (j_ksIt h1 ks tm (d - 1) (by omega) κ (some ks) md ns K V rk w2 w3) (xIs.of kcJ19 w2) (fun v_ h2 hq_ => ?_)
  obtain ⟨it, hv_, w5, rfl⟩ := hq_; cases hv_
  refine x_aret (M := mJ33_iterator) (pc := 14) dJ33_iterator_14 rfl (by first | exact Or.inl ⟨_, rfl⟩ | exact Or.inr ⟨_, rfl⟩) (by first | exact Nat.le_of_ble_eq_true rfl | omega) (by first | exact Nat.le_of_ble_eq_true rfl | omega) ?_
  refine ⟨it, ks, rfl, ?_, ⟨none, xu_s _ _ _⟩, w3.le (xle.fr w5), fun q e n1 z => xle.fr w5 q e (w4 q e n1 z)⟩
  cases hit : h it with
  | none => rfl
  | some e =>
    have : it ≠ tm := fun e => by obtain ⟨_, _, z⟩ := w3.obj; rw [← e, w5] at z; cases z
    rw [w4 it e this hit] at w5; cases w5
end JDKTS2

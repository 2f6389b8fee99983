/-! Desk -/
section DESK
set_option maxRecDepth 100000
variable {g : xG} {l : Launch} {h h0 h' : xH}
theorem c_deskInit (hh : xH) (dk d : Nat) (hd : 5 ≤ d) (v0 v1 : Value) (hdk : hh dk = some (.inr (1, [v0, v1]))) :
    Ct g l mX1_init d 8 94 [.ref dk] hh (fun o h' => o = .inl none ∧ ∃ q P sl f, h' dk = some (.inr (1, [.ref q, .ref sl])) ∧ h' sl = some (.inl (xdA g 6, 2, .inr (.inr (.inr (.inr f))))) ∧ (∀ j, f j = none) ∧ SHP g h' q P s0_ [] [] ∧ hh q = none ∧ hh sl = none ∧ (∀ i, i < 6 → hh (P i) = none) ∧ P 6 = xca g 0 0 ∧ P 7 = xca g 0 0 ∧ xle1 dk hh h') := by
  refine Ct.of [some (.ref dk)] (by decide +kernel) rfl (Nat.le_of_ble_eq_true rfl) rfl rfl ?_
  refine x_aload_n (M := mX1_init) (pc := 0) dX1_init_0 rfl ?_
  refine x_objInit (M := mX1_init) (pc := 1) q168 dX1_init_1 (by first | exact Nat.le_of_ble_eq_true rfl | omega) (by first | exact Nat.le_of_ble_eq_true rfl | (simp [xcat_rf, Value.category])) ?_
  refine x_aload_n (M := mX1_init) (pc := 4) dX1_init_4 rfl ?_
  refine x_new (M := mX1_init) (pc := 5) kcX2 q169 dX1_init_5 (by first | exact Nat.le_of_ble_eq_true rfl | omega) (by first | exact Nat.le_of_ble_eq_true rfl | omega) (fun q5_ hq5_ hb5_ => ?_)
  (try simp only [xu_noneI] at hq5_)
  repeat (obtain ⟨_, hq5_⟩ : _ ∧ _ := hq5_)
  refine x_dup (M := mX1_init) (pc := 8) dX1_init_8 ?_
  have hne := xu_fresh hq5_ hdk
  refine x_I0 (M := mX1_init) (pc := 9) (M' := mX2_init) q171 kIX2_init dX1_init_9 (c_shInit _ q5_ (d - 1) (by omega) _ _ _ _ _ _ _ _ _ _ (xu_s _ _ _)) (fun v_ h hq_ => ?_)
  obtain ⟨hv_, P, hN, hfr, p6, p7, hl1⟩ := hq_; cases hv_
  rotate_left
  have hdk1 := hl1 _ _ hne ((xu_n hne).trans hdk)
  first | refine x_put0' (M := mX1_init) (pc := 12) kcX1 q307 dX1_init_12 ?_ | refine x_put0 (M := mX1_init) (pc := 12) kcX1 q307 dX1_init_12 (by first | assumption | exact xu_s _ _ _ | exact (xu_n (by first | assumption | exact Ne.symm (by assumption) | exact xu_fresh (by assumption) (by assumption) | exact (xu_fresh (by assumption) (by assumption)).symm)).trans (by first | assumption | exact xu_s _ _ _ | exact (xu_n (by first | assumption | exact Ne.symm (by assumption) | exact xu_fresh (by assumption) (by assumption) | exact (xu_fresh (by assumption) (by assumption)).symm)).trans (by first | assumption | exact xu_s _ _ _ | exact (xu_n (by first | assumption | exact Ne.symm (by assumption) | exact xu_fresh (by assumption) (by assumption) | exact (xu_fresh (by assumption) (by assumption)).symm)).trans (by first | assumption | exact xu_s _ _ _)))) ?_
  refine x_aload_n (M := mX1_init) (pc := 15) dX1_init_15 rfl ?_
  refine x_iconst (M := mX1_init) (pc := 16) (v := nI 2) dX1_init_16 (by decide) ?_
  refine x_anew (M := mX1_init) (pc := 17) 6 _ q169 q306 dX1_init_17 (by first | rfl | assumption) (by first | exact Nat.le_of_ble_eq_true rfl | omega) (by first | exact Nat.le_of_ble_eq_true rfl | omega) (by first | exact Nat.le_of_ble_eq_true rfl | omega) (fun q17_ hq17_ hb17_ => ?_)
  (try simp only [xu_noneI] at hq17_)
  repeat (obtain ⟨_, hq17_⟩ : _ ∧ _ := hq17_)
  first | refine x_putF1' (M := mX1_init) (pc := 20) kcX1 q309 dX1_init_20 ?_ | refine x_putF1 (M := mX1_init) (pc := 20) kcX1 q309 dX1_init_20 (by first | assumption | exact xu_s _ _ _ | exact (xu_n (by first | assumption | exact Ne.symm (by assumption) | exact xu_fresh (by assumption) (by assumption) | exact (xu_fresh (by assumption) (by assumption)).symm)).trans (by first | assumption | exact xu_s _ _ _ | exact (xu_n (by first | assumption | exact Ne.symm (by assumption) | exact xu_fresh (by assumption) (by assumption) | exact (xu_fresh (by assumption) (by assumption)).symm)).trans (by first | assumption | exact xu_s _ _ _ | exact (xu_n (by first | assumption | exact Ne.symm (by assumption) | exact xu_fresh (by assumption) (by assumption) | exact (xu_fresh (by assumption) (by assumption)).symm)).trans (by first | assumption | exact xu_s _ _ _)))) ?_
  rotate_left
  have hfr' : ∀ i, i < 6 → hh (P i) = none ∧ P i ≠ q5_ := fun i hi => by
    have := hfr i hi; rw [xu_noneI] at this; exact ⟨this.2, this.1⟩
  have hq17 : hh q17_ = none ∧ q17_ ≠ q5_ := by
    refine ⟨?_, fun z => by rw [z, hN.1] at hq17_; cases hq17_⟩
    cases e : hh q17_ with
    | none => rfl
    | some e' =>
      have n1 := xu_fresh hq5_ e
      rw [hl1 _ _ n1 ((xu_n n1).trans e)] at hq17_; cases hq17_
  have K : ∀ a e, a ≠ dk → h a = some e → (xu (xu (xu h dk (.inr (1, [.ref q5_, v1]))) q17_ (.inl (xdA g 6, 2, .inr (.inr (.inr (.inr (fun _ => none))))))) dk (.inr (1, [.ref q5_, .ref q17_]))) a = some e := fun a e n ha => (xu_n n).trans ((xu_n (xu_fresh hq17_ ha)).trans ((xu_n n).trans ha))
  refine x_vret (M := mX1_init) (pc := 23) dX1_init_23 rfl (by first | exact Nat.le_of_ble_eq_true rfl | omega) (by first | exact Nat.le_of_ble_eq_true rfl | omega) ?_
  refine ⟨rfl, q5_, P, q17_, fun _ => none, xu_s _ _ _, (xu_n (by assumption)).trans (xu_s _ _ _), fun _ => rfl, ?_, hq5_, hq17.1, fun i hi => (hfr' i hi).1, p6, p7, fun a e na ha => K a e na (hl1 a e (xu_fresh hq5_ ha) ((xu_n (xu_fresh hq5_ ha)).trans ha))⟩
  obtain ⟨n1, ⟨f2, n2, u2⟩, ⟨f3, n3, u3⟩, ⟨f4, n4, u4⟩, ⟨f5, n5, u5⟩, hA, hB, h8⟩ := hN
  have cx : ∀ a e, h a = some e → (∀ fs, e ≠ .inr (1, fs)) → (xu (xu (xu h dk (.inr (1, [.ref q5_, v1]))) q17_ (.inl (xdA g 6, 2, .inr (.inr (.inr (.inr (fun _ => none))))))) dk (.inr (1, [.ref q5_, .ref q17_]))) a = some e := fun a e ha hn => K a e (fun z => by rw [z, hdk1] at ha; exact hn _ (Option.some.inj ha).symm) ha
  exact ⟨cx _ _ n1 (by intro _ z; cases z), ⟨f2, cx _ _ n2 (by intro _ z; cases z), u2⟩, ⟨f3, cx _ _ n3 (by intro _ z; cases z), u3⟩, ⟨f4, cx _ _ n4 (by intro _ z; cases z), u4⟩, ⟨f5, cx _ _ n5 (by intro _ z; cases z), u5⟩, hA.keep (fun fs q => cx _ _ q (by intro _ z; cases z)) (fun t m f q => cx _ _ q (by intro _ z; cases z)) (fun k hk p q => cx _ _ q (by intro _ z; cases z)) rfl (fun _ _ => rfl), hB.keep (fun fs q => cx _ _ q (by intro _ z; cases z)) (fun t m f q => cx _ _ q (by intro _ z; cases z)) (fun k hk p q => cx _ _ q (by intro _ z; cases z)) rfl (fun _ _ => rfl), h8⟩
end DESK

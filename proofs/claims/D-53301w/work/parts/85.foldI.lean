/-! Folding.<init> -/
section FOLDI
set_option maxRecDepth 100000
variable {g : xG} {l : Launch} {h h0 : xH}
/-- k layers are made -/
def FII (g : xG) (h00 h1 : xH) (fo q hi wi N : Nat) (lc : Nat → Nat) (k : Nat) : Prop :=
  h1 fo = some (.inr (5, [.int (nI hi), .int (nI wi), .ref q])) ∧ PLA g h1 q N (fun j => q + 1 + j) ∧
  (∀ j, j < N → ∃ f, h1 (q + 1 + j) = some (.inl (xdA g 4, 1, .inr (.inr (.inr (.inr f))))) ∧ (j < k → f 0 = some (lc j))) ∧
  (∀ j, j < k → h1 (lc j) = some (lyE (j / wi) (j % wi) (false, false)) ∧ h00 (lc j) = none) ∧ (∀ i j, i < k → j < k → lc i = lc j → i = j) ∧ xle h00 h1 ∧ (∀ j, j ≤ N → h00 (q + j) = none)
theorem FII.step {h00 h1 : xH} {fo q hi wi N k a : Nat} {lc : Nat → Nat} {f : Nat → Option Nat} (hI : FII g h00 h1 fo q hi wi N lc k) (hk : k < N) (ha : h1 a = none) : FII g h00 (xu (xu h1 a (lyE (k / wi) (k % wi) (false, false))) (q + 1 + k) (.inl (xdA g 4, 1, .inr (.inr (.inr (.inr (va_up f 0 (some a)))))))) fo q hi wi N (va_up lc k a) (k + 1) := by
  obtain ⟨i1, i2, i3, i4, i5, i6, i7⟩ := hI
  obtain ⟨fk, i3k, -⟩ := i3 k hk
  have hak : a ≠ q + 1 + k := fun e => by rw [e, i3k] at ha; cases ha
  have up : ∀ b e, b ≠ q + 1 + k → h1 b = some e → xu (xu h1 a (lyE (k / wi) (k % wi) (false, false))) (q + 1 + k) (.inl (xdA g 4, 1, .inr (.inr (.inr (.inr (va_up f 0 (some a))))))) b = some e := fun b e hb he => (xu_n hb).trans ((xu_n (fun z => by rw [z, ha] at he; cases he)).trans he)
  refine ⟨up _ _ (fun e => by rw [e, i3k] at i1; cases i1) i1, i2.le (fun e he => up _ _ (by omega) he), fun j hj => ?_, fun j hj => ?_, fun i j hi hj e => ?_, fun b e hb => up _ _ (fun z => by rw [z, show q + 1 + k = q + (1 + k) by omega, i7 _ (by omega)] at hb; cases hb) (i6 _ _ hb), i7⟩
  · by_cases e : j = k
    · subst e
      exact ⟨_, xu_s _ _ _, fun _ => by simp [va_up]⟩
    · obtain ⟨fj, z1, z2⟩ := i3 j hj
      exact ⟨fj, up _ _ (by omega) z1, fun hjk => by simp [va_up, e]; exact z2 (by omega)⟩
  · by_cases e : j = k
    · subst e
      simp only [va_up, if_true]
      exact ⟨(xu_n hak).trans (xu_s _ _ _), i6.none ha⟩
    · simp only [va_up, e, if_false]
      have z := i4 j (by omega)
      exact ⟨up _ _ (fun w => by rw [w, i3k] at z; cases z.1) z.1, z.2⟩
  · by_cases e1 : i = k <;> by_cases e2 : j = k <;> simp only [va_up, e1, e2, if_true, if_false] at e
    · omega
    · have := (i4 j (by omega)).1; rw [← e, ha] at this; cases this
    · have := (i4 i (by omega)).1; rw [e, ha] at this; cases this
    · exact i5 i j (by omega) (by omega) e
theorem j_fiL (h00 : xH) (fo q hi wi N d : Nat) (hd : 3 ≤ d) (hN : N = hi * wi) (hN16 : N ≤ 16) (hwi : 0 < wi) (hwi4 : wi ≤ 4) (Q : xO → xH → Prop) (hE : ∀ h1 lc, FII g h00 h1 fo q hi wi N lc N → Q (.inl none) h1) : ∀ n k, N - k ≤ n → k ≤ N → ∀ h1 lc, FII g h00 h1 fo q hi wi N lc k → X g l mX5_init d (1 + N + N) (N + N + 4 * N) Q 34 [some (.ref fo), some (.int (nI hi)), some (.int (nI wi)), some (.int (nI k))] [] h1 (1 + N + k) (N + N + 4 * k) := by
  intro n
  induction n with
  | zero =>
    intro k hk hkN h1 lc hI
    have : k = N := by omega
    subst this
    have hI0 := hI
    obtain ⟨i1, ⟨pf, i2, i2'⟩, i3, i4, i5, i6, i7⟩ := hI
    refine x_iload_n (M := mX5_init) (pc := 34) dX5_init_34 rfl ?_
    refine x_aload_n (M := mX5_init) (pc := 35) dX5_init_35 rfl ?_
    refine x_get (M := mX5_init) (pc := 36) kcX5 2 rfl q496 dX5_init_36 (by first | assumption | exact xu_s _ _ _ | exact (xu_n (by first | assumption | exact Ne.symm (by assumption) | exact xu_fresh (by assumption) (by assumption) | exact (xu_fresh (by assumption) (by assumption)).symm)).trans (by first | assumption | exact xu_s _ _ _ | exact (xu_n (by first | assumption | exact Ne.symm (by assumption) | exact xu_fresh (by assumption) (by assumption) | exact (xu_fresh (by assumption) (by assumption)).symm)).trans (by first | assumption | exact xu_s _ _ _ | exact (xu_n (by first | assumption | exact Ne.symm (by assumption) | exact xu_fresh (by assumption) (by assumption) | exact (xu_fresh (by assumption) (by assumption)).symm)).trans (by first | assumption | exact xu_s _ _ _)))) rfl ?_
    refine x_alen (M := mX5_init) (pc := 39) dX5_init_39 (by first | assumption | exact xu_s _ _ _ | exact (xu_n (by first | assumption | exact Ne.symm (by assumption) | exact xu_fresh (by assumption) (by assumption) | exact (xu_fresh (by assumption) (by assumption)).symm)).trans (by first | assumption | exact xu_s _ _ _ | exact (xu_n (by first | assumption | exact Ne.symm (by assumption) | exact xu_fresh (by assumption) (by assumption) | exact (xu_fresh (by assumption) (by assumption)).symm)).trans (by first | assumption | exact xu_s _ _ _ | exact (xu_n (by first | assumption | exact Ne.symm (by assumption) | exact xu_fresh (by assumption) (by assumption) | exact (xu_fresh (by assumption) (by assumption)).symm)).trans (by first | assumption | exact xu_s _ _ _)))) rfl ?_
    refine x_icmp_geN (M := mX5_init) (pc := 40) (a := k) (b := k) 76 dX5_init_40 (by decide) (by omega) (by omega) (fun z => ?_) (fun z => absurd z (by omega))
    refine x_vret (M := mX5_init) (pc := 76) dX5_init_76 rfl (by first | exact Nat.le_of_ble_eq_true rfl | omega) (by first | exact Nat.le_of_ble_eq_true rfl | omega) ?_
    exact hE h1 lc hI0
  | succ n ih =>
    intro k hk hkN h1 lc hI
    have hI0 := hI
    obtain ⟨i1, ⟨pf, i2, i2'⟩, i3, i4, i5, i6, i7⟩ := hI
    refine x_iload_n (M := mX5_init) (pc := 34) dX5_init_34 rfl ?_
    refine x_aload_n (M := mX5_init) (pc := 35) dX5_init_35 rfl ?_
    refine x_get (M := mX5_init) (pc := 36) kcX5 2 rfl q496 dX5_init_36 (by first | assumption | exact xu_s _ _ _ | exact (xu_n (by first | assumption | exact Ne.symm (by assumption) | exact xu_fresh (by assumption) (by assumption) | exact (xu_fresh (by assumption) (by assumption)).symm)).trans (by first | assumption | exact xu_s _ _ _ | exact (xu_n (by first | assumption | exact Ne.symm (by assumption) | exact xu_fresh (by assumption) (by assumption) | exact (xu_fresh (by assumption) (by assumption)).symm)).trans (by first | assumption | exact xu_s _ _ _ | exact (xu_n (by first | assumption | exact Ne.symm (by assumption) | exact xu_fresh (by assumption) (by assumption) | exact (xu_fresh (by assumption) (by assumption)).symm)).trans (by first | assumption | exact xu_s _ _ _)))) rfl ?_
    refine x_alen (M := mX5_init) (pc := 39) dX5_init_39 (by first | assumption | exact xu_s _ _ _ | exact (xu_n (by first | assumption | exact Ne.symm (by assumption) | exact xu_fresh (by assumption) (by assumption) | exact (xu_fresh (by assumption) (by assumption)).symm)).trans (by first | assumption | exact xu_s _ _ _ | exact (xu_n (by first | assumption | exact Ne.symm (by assumption) | exact xu_fresh (by assumption) (by assumption) | exact (xu_fresh (by assumption) (by assumption)).symm)).trans (by first | assumption | exact xu_s _ _ _ | exact (xu_n (by first | assumption | exact Ne.symm (by assumption) | exact xu_fresh (by assumption) (by assumption) | exact (xu_fresh (by assumption) (by assumption)).symm)).trans (by first | assumption | exact xu_s _ _ _)))) rfl ?_
    refine x_icmp_geN (M := mX5_init) (pc := 40) (a := k) (b := N) 76 dX5_init_40 (by decide) (by omega) (by omega) (fun z => ?_) (fun z => ?_)
    · have : k = N := by omega
      subst this
      refine x_vret (M := mX5_init) (pc := 76) dX5_init_76 rfl (by first | exact Nat.le_of_ble_eq_true rfl | omega) (by first | exact Nat.le_of_ble_eq_true rfl | omega) ?_
      exact hE h1 lc hI0
    · obtain ⟨fk, i3k, -⟩ := i3 k z
      refine x_aload_n (M := mX5_init) (pc := 43) dX5_init_43 rfl ?_
      refine x_get (M := mX5_init) (pc := 44) kcX5 2 rfl q496 dX5_init_44 (by first | assumption | exact xu_s _ _ _ | exact (xu_n (by first | assumption | exact Ne.symm (by assumption) | exact xu_fresh (by assumption) (by assumption) | exact (xu_fresh (by assumption) (by assumption)).symm)).trans (by first | assumption | exact xu_s _ _ _ | exact (xu_n (by first | assumption | exact Ne.symm (by assumption) | exact xu_fresh (by assumption) (by assumption) | exact (xu_fresh (by assumption) (by assumption)).symm)).trans (by first | assumption | exact xu_s _ _ _ | exact (xu_n (by first | assumption | exact Ne.symm (by assumption) | exact xu_fresh (by assumption) (by assumption) | exact (xu_fresh (by assumption) (by assumption)).symm)).trans (by first | assumption | exact xu_s _ _ _)))) rfl ?_
      refine x_iload_n (M := mX5_init) (pc := 47) dX5_init_47 rfl ?_
      refine x_aaldN (M := mX5_init) (pc := 48) (v := .ref (q + 1 + k)) _ dX5_init_48 i2 rfl z (by omega) (by rw [i2' _ z]; rfl) ?_
      refine x_iconst (M := mX5_init) (pc := 49) (v := nI 0) dX5_init_49 (by decide) ?_
      refine x_new (M := mX5_init) (pc := 50) kcX6 q470 dX5_init_50 (by first | exact Nat.le_of_ble_eq_true rfl | omega) (by first | exact Nat.le_of_ble_eq_true rfl | omega) (fun q50_ hq50_ hb50_ => ?_)
      (try simp only [xu_noneI] at hq50_)
      repeat (obtain ⟨_, hq50_⟩ : _ ∧ _ := hq50_)
      have hfa : fo ≠ q50_ := fun e => by rw [e, hq50_] at i1; cases i1
      have hfa' := hfa.symm
      have hak : q + 1 + k ≠ q50_ := fun e => by rw [e, hq50_] at i3k; cases i3k
      refine x_dup (M := mX5_init) (pc := 53) dX5_init_53 ?_
      refine x_iload_n (M := mX5_init) (pc := 54) dX5_init_54 rfl ?_
      refine x_aload_n (M := mX5_init) (pc := 55) dX5_init_55 rfl ?_
      refine x_get (M := mX5_init) (pc := 56) kcX5 1 rfl q494 dX5_init_56 (by first | assumption | exact xu_s _ _ _ | exact (xu_n (by first | assumption | exact Ne.symm (by assumption) | exact xu_fresh (by assumption) (by assumption) | exact (xu_fresh (by assumption) (by assumption)).symm)).trans (by first | assumption | exact xu_s _ _ _ | exact (xu_n (by first | assumption | exact Ne.symm (by assumption) | exact xu_fresh (by assumption) (by assumption) | exact (xu_fresh (by assumption) (by assumption)).symm)).trans (by first | assumption | exact xu_s _ _ _ | exact (xu_n (by first | assumption | exact Ne.symm (by assumption) | exact xu_fresh (by assumption) (by assumption) | exact (xu_fresh (by assumption) (by assumption)).symm)).trans (by first | assumption | exact xu_s _ _ _)))) rfl ?_
      first | with_reducible refine x_idivN (M := mX5_init) (pc := 59) dX5_init_59 (by omega) (by omega) (by omega) ?_ | refine x_idiv (M := mX5_init) (pc := 59) dX5_init_59 (by first | decide | assumption) ?_
      refine x_iload_n (M := mX5_init) (pc := 60) dX5_init_60 rfl ?_
      refine x_aload_n (M := mX5_init) (pc := 61) dX5_init_61 rfl ?_
      refine x_get (M := mX5_init) (pc := 62) kcX5 1 rfl q494 dX5_init_62 (by first | assumption | exact xu_s _ _ _ | exact (xu_n (by first | assumption | exact Ne.symm (by assumption) | exact xu_fresh (by assumption) (by assumption) | exact (xu_fresh (by assumption) (by assumption)).symm)).trans (by first | assumption | exact xu_s _ _ _ | exact (xu_n (by first | assumption | exact Ne.symm (by assumption) | exact xu_fresh (by assumption) (by assumption) | exact (xu_fresh (by assumption) (by assumption)).symm)).trans (by first | assumption | exact xu_s _ _ _ | exact (xu_n (by first | assumption | exact Ne.symm (by assumption) | exact xu_fresh (by assumption) (by assumption) | exact (xu_fresh (by assumption) (by assumption)).symm)).trans (by first | assumption | exact xu_s _ _ _)))) rfl ?_
      first | with_reducible refine x_iremN (M := mX5_init) (pc := 65) dX5_init_65 (by omega) (by omega) (by omega) ?_ | refine x_irem (M := mX5_init) (pc := 65) dX5_init_65 (by first | decide | assumption) ?_
      refine x_I2 (M := mX5_init) (pc := 66) (M' := mX6_init) q472 kIX6_init dX5_init_66 (c_lyInit _ q50_ (k / wi) (k % wi) (d - 1) (by omega) _ _ (xu_s _ _ _)) (fun v_ h hq_ => ?_)
      obtain ⟨hv_, rfl⟩ := hq_; cases hv_; rw [xu_xu]
      skip
      refine x_aastN (M := mX5_init) (pc := 69) 0 dX5_init_69 ((xu_n hak).trans i3k) (xIs.of kcX6 (xu_s _ _ _)) (Or.inl rfl) rfl (by omega) (by omega) ?_
      first | refine x_iinc3N (M := mX5_init) (pc := 70) (c := 1) dX5_init_70 oI1 ?_ | refine x_iinc3 (M := mX5_init) (pc := 70) (c := 1) dX5_init_70 (by decide) ?_
      refine x_goto (M := mX5_init) (pc := 73) 34 dX5_init_73 (by decide) ?_
      have hst := hI0.step (f := fk) z hq50_
      have := ih (k + 1) (by omega) (by omega) _ _ hst
      exact this
theorem c_fdInit (h00 h : xH) (fo hi wi N d : Nat) (hd : 3 ≤ d) (hN : N = hi * wi) (hN16 : N ≤ 16) (hwi : 0 < wi) (hwi4 : wi ≤ 4) (v0 v1 v2 : Value) (hfo : h fo = some (.inr (5, [v0, v1, v2]))) (hf0 : h00 fo = none) (hle : xle h00 h) : Ct g l mX5_init d (1 + N + N) (N + N + 4 * N) [.ref fo, .int (nI hi), .int (nI wi)] h (fun o h' => o = .inl none ∧ FD g h00 h' fo wi hi wi 1 (fun t => (t, false, false))) := by
  refine Ct.of [some (.ref fo), some (.int (nI hi)), some (.int (nI wi)), none] (by decide +kernel) rfl (Nat.le_of_ble_eq_true rfl) rfl rfl ?_
  refine x_aload_n (M := mX5_init) (pc := 0) dX5_init_0 rfl ?_
  refine x_objInit (M := mX5_init) (pc := 1) q465 dX5_init_1 (by first | exact Nat.le_of_ble_eq_true rfl | omega) (by first | exact Nat.le_of_ble_eq_true rfl | (simp [xcat_rf, Value.category])) ?_
  refine x_aload_n (M := mX5_init) (pc := 4) dX5_init_4 rfl ?_
  refine x_iload_n (M := mX5_init) (pc := 5) dX5_init_5 rfl ?_
  first | refine x_put0' (M := mX5_init) (pc := 6) kcX5 q493 dX5_init_6 ?_ | refine x_put0 (M := mX5_init) (pc := 6) kcX5 q493 dX5_init_6 (by first | assumption | exact xu_s _ _ _ | exact (xu_n (by first | assumption | exact Ne.symm (by assumption) | exact xu_fresh (by assumption) (by assumption) | exact (xu_fresh (by assumption) (by assumption)).symm)).trans (by first | assumption | exact xu_s _ _ _ | exact (xu_n (by first | assumption | exact Ne.symm (by assumption) | exact xu_fresh (by assumption) (by assumption) | exact (xu_fresh (by assumption) (by assumption)).symm)).trans (by first | assumption | exact xu_s _ _ _ | exact (xu_n (by first | assumption | exact Ne.symm (by assumption) | exact xu_fresh (by assumption) (by assumption) | exact (xu_fresh (by assumption) (by assumption)).symm)).trans (by first | assumption | exact xu_s _ _ _)))) ?_
  refine x_aload_n (M := mX5_init) (pc := 9) dX5_init_9 rfl ?_
  refine x_iload_n (M := mX5_init) (pc := 10) dX5_init_10 rfl ?_
  first | refine x_put1' (M := mX5_init) (pc := 11) kcX5 q494 dX5_init_11 ?_ | refine x_put1 (M := mX5_init) (pc := 11) kcX5 q494 dX5_init_11 (by first | assumption | exact xu_s _ _ _ | exact (xu_n (by first | assumption | exact Ne.symm (by assumption) | exact xu_fresh (by assumption) (by assumption) | exact (xu_fresh (by assumption) (by assumption)).symm)).trans (by first | assumption | exact xu_s _ _ _ | exact (xu_n (by first | assumption | exact Ne.symm (by assumption) | exact xu_fresh (by assumption) (by assumption) | exact (xu_fresh (by assumption) (by assumption)).symm)).trans (by first | assumption | exact xu_s _ _ _ | exact (xu_n (by first | assumption | exact Ne.symm (by assumption) | exact xu_fresh (by assumption) (by assumption) | exact (xu_fresh (by assumption) (by assumption)).symm)).trans (by first | assumption | exact xu_s _ _ _)))) ?_
  refine x_aload_n (M := mX5_init) (pc := 14) dX5_init_14 rfl ?_
  refine x_aload_n (M := mX5_init) (pc := 15) dX5_init_15 rfl ?_
  refine x_get (M := mX5_init) (pc := 16) kcX5 0 rfl q493 dX5_init_16 (by first | assumption | exact xu_s _ _ _ | exact (xu_n (by first | assumption | exact Ne.symm (by assumption) | exact xu_fresh (by assumption) (by assumption) | exact (xu_fresh (by assumption) (by assumption)).symm)).trans (by first | assumption | exact xu_s _ _ _ | exact (xu_n (by first | assumption | exact Ne.symm (by assumption) | exact xu_fresh (by assumption) (by assumption) | exact (xu_fresh (by assumption) (by assumption)).symm)).trans (by first | assumption | exact xu_s _ _ _ | exact (xu_n (by first | assumption | exact Ne.symm (by assumption) | exact xu_fresh (by assumption) (by assumption) | exact (xu_fresh (by assumption) (by assumption)).symm)).trans (by first | assumption | exact xu_s _ _ _)))) rfl ?_
  refine x_aload_n (M := mX5_init) (pc := 19) dX5_init_19 rfl ?_
  refine x_get (M := mX5_init) (pc := 20) kcX5 1 rfl q494 dX5_init_20 (by first | assumption | exact xu_s _ _ _ | exact (xu_n (by first | assumption | exact Ne.symm (by assumption) | exact xu_fresh (by assumption) (by assumption) | exact (xu_fresh (by assumption) (by assumption)).symm)).trans (by first | assumption | exact xu_s _ _ _ | exact (xu_n (by first | assumption | exact Ne.symm (by assumption) | exact xu_fresh (by assumption) (by assumption) | exact (xu_fresh (by assumption) (by assumption)).symm)).trans (by first | assumption | exact xu_s _ _ _ | exact (xu_n (by first | assumption | exact Ne.symm (by assumption) | exact xu_fresh (by assumption) (by assumption) | exact (xu_fresh (by assumption) (by assumption)).symm)).trans (by first | assumption | exact xu_s _ _ _)))) rfl ?_
  first | with_reducible refine x_imulN (M := mX5_init) (pc := 23) dX5_init_23 ?_ | refine x_imul (M := mX5_init) (pc := 23) dX5_init_23 ?_
  refine x_iconst (M := mX5_init) (pc := 24) (v := nI 1) dX5_init_24 (by decide) ?_
  skip
  rw [← hN]
  refine x_manew (M := mX5_init) (pc := 25) N q466 dX5_init_25 (by omega) (by omega) (by omega) (fun q hq hbq => ?_)
  have hqf : ∀ j, j ≤ N → q + j ≠ fo := fun j hj e => by have := hq j hj; rw [e, xu_s] at this; cases this
  have hq0 : ∀ j, j ≤ N → h (q + j) = none := fun j hj => by have := hq j hj; rwa [xu_n (hqf j hj)] at this
  have hma : ∀ b, (∀ j, j ≤ N → b ≠ q + j) → xma g (xu h fo (.inr (5, [.int (nI hi), .int (nI wi), v2]))) q N b = xu h fo (.inr (5, [.int (nI hi), .int (nI wi), v2])) b := fun b hb => by
    have z1 := hb 0 (by omega)
    have z2 : ¬ (q < b ∧ b ≤ q + N) := fun z => hb (b - q) (by omega) (by omega)
    simp only [Nat.add_zero] at z1
    simp [xma, z1, z2]
  have hfo1 : xma g (xu h fo (.inr (5, [.int (nI hi), .int (nI wi), v2]))) q N fo = some (.inr (5, [.int (nI hi), .int (nI wi), v2])) := by
    rw [hma fo (fun j hj e => hqf j hj e.symm), xu_s]
  first | refine x_put2' (M := mX5_init) (pc := 29) kcX5 q496 dX5_init_29 ?_ | refine x_put2 (M := mX5_init) (pc := 29) kcX5 q496 dX5_init_29 (by first | assumption | exact xu_s _ _ _ | exact (xu_n (by first | assumption | exact Ne.symm (by assumption) | exact xu_fresh (by assumption) (by assumption) | exact (xu_fresh (by assumption) (by assumption)).symm)).trans (by first | assumption | exact xu_s _ _ _ | exact (xu_n (by first | assumption | exact Ne.symm (by assumption) | exact xu_fresh (by assumption) (by assumption) | exact (xu_fresh (by assumption) (by assumption)).symm)).trans (by first | assumption | exact xu_s _ _ _ | exact (xu_n (by first | assumption | exact Ne.symm (by assumption) | exact xu_fresh (by assumption) (by assumption) | exact (xu_fresh (by assumption) (by assumption)).symm)).trans (by first | assumption | exact xu_s _ _ _)))) ?_
  refine x_iconst (M := mX5_init) (pc := 32) (v := nI 0) dX5_init_32 (by decide) ?_
  refine x_istore3 (M := mX5_init) (pc := 33) dX5_init_33 ?_
  rw [show 0 + (1 + N) = 1 + N + 0 by omega, show 0 + (N + N) = N + N + 4 * 0 by omega]
  refine j_fiL h00 fo q hi wi N d hd hN hN16 hwi hwi4 _ (fun h1 lc hI => ?_) N 0 (by omega) (by omega) _ (fun _ => 0) ?_
  · obtain ⟨i1, i2, i3, i4, i5, i6, i7⟩ := hI
    refine ⟨rfl, q, fun j => q + 1 + j, lc, i1, by rw [← hN]; exact i2, fun p hp => ?_, fun t ht => ?_, fun t u ht hu e => ?_, hf0, fun t ht => ?_, i6⟩
    · obtain ⟨ff, z1, z2⟩ := i3 p (by omega)
      refine ⟨ff, z1, fun k hk => ?_⟩
      have : k = 0 := by omega
      subst this
      rw [z2 (by omega)]; simp
    · exact (i4 t (by omega)).1
    · exact i5 t u (by omega) (by omega) e
    · exact (i4 t (by omega)).2
  · have hx : ∀ b e, h b = some e → b ≠ fo → xu (xma g (xu h fo (.inr (5, [.int (nI hi), .int (nI wi), v2]))) q N) fo (.inr (5, [.int (nI hi), .int (nI wi), .ref q])) b = some e := fun b e hb hne => by
      rw [xu_n hne, hma b (fun j hj z => by rw [z, hq0 j hj] at hb; cases hb), xu_n hne]; exact hb
    refine ⟨xu_s _ _ _, ⟨fun j => if j < N then some (q + 1 + j) else none, ?_, fun p hp => by simp [hp]⟩, fun j hj => ⟨fun _ => none, ?_, fun z => absurd z (by omega)⟩, fun j hj => absurd hj (by omega), fun i j hi => absurd hi (by omega), fun b e hb => hx b e (hle _ _ hb) (fun z => by rw [z, hf0] at hb; cases hb), fun j hj => hle.none (hq0 j hj)⟩
    · rw [xu_n (by have := hqf 0 (by omega); simpa using this)]; simp [xma]
    · have e1 : q + 1 + j ≠ q := by omega
      have e2 : q < q + 1 + j ∧ q + 1 + j ≤ q + N := by omega
      rw [xu_n (by have := hqf (1 + j) (by omega); rwa [← Nat.add_assoc] at this)]; simp [xma, e1, e2]
end FOLDI

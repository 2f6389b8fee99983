/-! Folding.laid -/
section LAID
set_option maxRecDepth 100000
variable {g : xG} {l : Launch} {h h0 : xH}
/-- an array of n layers, by a -/
def LA (g : xG) (h : xH) (ar n : Nat) (a : Nat → Nat) : Prop := ∃ f, h ar = some (.inl (xdA g 4, n, .inr (.inr (.inr (.inr f))))) ∧ ∀ k, k < n → f k = some (a k)
theorem LA.le {h' : xH} {ar n : Nat} {a : Nat → Nat} (hl : ∀ e, h ar = some e → h' ar = some e) (hA : LA g h ar n a) : LA g h' ar n a := by
  obtain ⟨f, h1, h2⟩ := hA; exact ⟨f, hl _ h1, h2⟩
theorem LA.ext {ar n : Nat} {a a' : Nat → Nat} (he : ∀ k, k < n → a' k = a k) (hA : LA g h ar n a) : LA g h ar n a' := by
  obtain ⟨f, h1, h2⟩ := hA; exact ⟨f, h1, fun k hk => by rw [he k hk]; exact h2 k hk⟩
theorem j_laidL (mA bA al ma d : Nat) (hd : 1 ≤ d) (hma : ma ≤ 8) (ac : Bool) (m b ro co : Nat → Nat) (w : Nat → Bool × Bool) (hinj : ∀ i j, i < ma → j < ma → m i = m j → i = j) (hbm : ∀ i j, i < ma → j < ma → b i ≠ m j) (hmA : LA g h mA ma m) (hbA : LA g h bA ma b) (hm : ∀ k, k < ma → h (m k) = some (lyE (ro k) (co k) (w k))) (hb : ∀ k, k < ma → ∃ vs, h (b k) = some (.inr (6, vs))) (hal : h al = none) (Q : xO → xH → Prop)
    (hE : ∀ h', LA g h' al (2 * ma) (fun k => if k < ma then m (ma - 1 - k) else b (k - ma)) → (∀ k, k < ma → h' (m k) = some (lyE (ro k) (co k) (lyT ac (w k)))) → (∀ q e, (∀ k, k < ma → q ≠ m k) → h q = some e → h' q = some e) → Q (.inl (some (.ref al))) h') :
    ∀ n k, ma - k ≤ n → k ≤ ma → ∀ (h1 : xH) (f1 : Nat → Option Nat), h1 al = some (.inl (xdA g 4, 2 * ma, .inr (.inr (.inr (.inr f1))))) → (∀ j, j < k → f1 j = some (m (ma - 1 - j)) ∧ f1 (ma + j) = some (b j)) → (∀ j, j < ma → h1 (m j) = some (lyE (ro j) (co j) (if ma - 1 - j < k then lyT ac (w j) else w j))) → (∀ q e, (∀ k, k < ma → q ≠ m k) → h q = some e → h1 q = some e) → X g l mX5_laid d 1 (2 * ma) Q 14 [some (.ref mA), some (.ref bA), some (.int (bI ac)), some (.int (nI ma)), some (.ref al), some (.int (nI k))] [] h1 1 (2 * ma) := by
  have hmal : ∀ k, k < ma → m k ≠ al := fun k hk z => by have := hm k hk; rw [z, hal] at this; cases this
  have hmm : ∀ k, k < ma → mA ≠ m k := fun k hk z => by obtain ⟨f, q1, _⟩ := hmA; rw [z, hm k hk] at q1; cases q1
  have hmb : ∀ k, k < ma → bA ≠ m k := fun k hk z => by obtain ⟨f, q1, _⟩ := hbA; rw [z, hm k hk] at q1; cases q1
  have hAal : mA ≠ al := fun z => by obtain ⟨f, q1, _⟩ := hmA; rw [z, hal] at q1; cases q1
  have hBal : bA ≠ al := fun z => by obtain ⟨f, q1, _⟩ := hbA; rw [z, hal] at q1; cases q1
  have hbal : ∀ k, k < ma → b k ≠ al := fun k hk z => by obtain ⟨vs, q1⟩ := hb k hk; rw [z, hal] at q1; cases q1
  intro n
  induction n with
  | zero =>
    intro k hk hkm h1 f1 ha hf hw hfr
    have : k = ma := by omega
    subst this
    refine x_iload (M := mX5_laid) (pc := 14) dX5_laid_14 rfl ?_
    refine x_iload_n (M := mX5_laid) (pc := 16) dX5_laid_16 rfl ?_
    refine x_icmp_geN (M := mX5_laid) (pc := 17) 59 dX5_laid_17 (by decide) (by omega) (by omega) (fun z => ?_) (fun z => absurd z (by omega))
    refine x_aload (M := mX5_laid) (pc := 59) dX5_laid_59 rfl ?_
    refine x_aret (M := mX5_laid) (pc := 61) dX5_laid_61 rfl (by first | exact Or.inl ⟨_, rfl⟩ | exact Or.inr ⟨_, rfl⟩) (by first | exact Nat.le_of_ble_eq_true rfl | omega) (by first | exact Nat.le_of_ble_eq_true rfl | omega) ?_
    refine hE h1 ⟨f1, ha, fun j hj => ?_⟩ (fun j hj => ?_) hfr
    · by_cases q : j < k
      · simp only [q, if_true]; exact (hf j q).1
      · simp only [q, if_false]; have := (hf (j - k) (by omega)).2; rwa [show k + (j - k) = j by omega] at this
    · have := hw j hj; rwa [if_pos (by omega)] at this
  | succ n ih =>
    intro k hk hkm h1 f1 ha hf hw hfr
    refine x_iload (M := mX5_laid) (pc := 14) dX5_laid_14 rfl ?_
    refine x_iload_n (M := mX5_laid) (pc := 16) dX5_laid_16 rfl ?_
    refine x_icmp_geN (M := mX5_laid) (pc := 17) 59 dX5_laid_17 (by decide) (by omega) (by omega) (fun z => ?_) (fun z => ?_)
    · have : k = ma := by omega
      subst this
      refine x_aload (M := mX5_laid) (pc := 59) dX5_laid_59 rfl ?_
      refine x_aret (M := mX5_laid) (pc := 61) dX5_laid_61 rfl (by first | exact Or.inl ⟨_, rfl⟩ | exact Or.inr ⟨_, rfl⟩) (by first | exact Nat.le_of_ble_eq_true rfl | omega) (by first | exact Nat.le_of_ble_eq_true rfl | omega) ?_
      refine hE h1 ⟨f1, ha, fun j hj => ?_⟩ (fun j hj => ?_) hfr
      · by_cases q : j < k
        · simp only [q, if_true]; exact (hf j q).1
        · simp only [q, if_false]; have := (hf (j - k) (by omega)).2; rwa [show k + (j - k) = j by omega] at this
      · have := hw j hj; rwa [if_pos (by omega)] at this
    · obtain ⟨fm, hm1, hm2⟩ := hmA
      obtain ⟨fb, hb1, hb2⟩ := hbA
      have hm1' := hfr mA _ hmm hm1
      have hb1' := hfr bA _ hmb hb1
      have hjm : ma - 1 - k < ma := by omega
      have hwk := hw (ma - 1 - k) hjm
      rw [if_neg (by omega)] at hwk
      refine x_aload (M := mX5_laid) (pc := 20) dX5_laid_20 rfl ?_
      refine x_iload (M := mX5_laid) (pc := 22) dX5_laid_22 rfl ?_
      refine x_aload_n (M := mX5_laid) (pc := 24) dX5_laid_24 rfl ?_
      refine x_iload_n (M := mX5_laid) (pc := 25) dX5_laid_25 rfl ?_
      refine x_iconst (M := mX5_laid) (pc := 26) (v := nI 1) dX5_laid_26 (by decide) ?_
      first | with_reducible refine x_isubN (M := mX5_laid) (pc := 27) dX5_laid_27 (by omega) ?_ | refine x_isub (M := mX5_laid) (pc := 27) dX5_laid_27 ?_
      refine x_iload (M := mX5_laid) (pc := 28) dX5_laid_28 rfl ?_
      first | with_reducible refine x_isubN (M := mX5_laid) (pc := 30) dX5_laid_30 (by omega) ?_ | refine x_isub (M := mX5_laid) (pc := 30) dX5_laid_30 ?_
      refine x_aaldN (M := mX5_laid) (pc := 31) (v := .ref (m (ma - 1 - k))) _ dX5_laid_31 hm1' rfl hjm (by omega) (by rw [hm2 _ hjm]; rfl) ?_
      refine x_aastN (M := mX5_laid) (pc := 32) _ dX5_laid_32 ha (xIs.of kcX6 hwk) (Or.inl rfl) rfl (by omega) (by omega) ?_
      refine x_aload (M := mX5_laid) (pc := 33) dX5_laid_33 rfl ?_
      refine x_iload (M := mX5_laid) (pc := 35) dX5_laid_35 rfl ?_
      refine x_aaldN (M := mX5_laid) (pc := 37) (v := .ref (m (ma - 1 - k))) _ dX5_laid_37 (xu_s _ _ _) rfl (by omega) (by omega) (by simp [va_up, va_rf]) ?_
      have hwk' : xu h1 al (.inl (xdA g 4, 2 * ma, .inr (.inr (.inr (.inr (va_up f1 k (some (m (ma - 1 - k))))))))) (m (ma - 1 - k)) = _ := (xu_n (hmal _ hjm)).trans hwk
      refine x_iload_n (M := mX5_laid) (pc := 38) dX5_laid_38 rfl ?_
      refine x_V1 (M := mX5_laid) (pc := 39) (M' := mX6_turnOver) q524 kVX6_turnOver dX5_laid_39 (c_turn _ (m (ma - 1 - k)) (ro (ma - 1 - k)) (co (ma - 1 - k)) (d - 1) (w (ma - 1 - k)) ac hwk') (xIs.of kcX6 hwk') (fun v_ h hq_ => ?_)
      obtain ⟨hv_, rfl⟩ := hq_; cases hv_
      skip
      have hbk := hb k (by omega)
      obtain ⟨vs, hbk⟩ := hbk
      have hbk1 := hfr (b k) _ (fun j hj => hbm k j (by omega) hj) hbk
      refine x_aload (M := mX5_laid) (pc := 42) dX5_laid_42 rfl ?_
      refine x_iload_n (M := mX5_laid) (pc := 44) dX5_laid_44 rfl ?_
      refine x_iload (M := mX5_laid) (pc := 45) dX5_laid_45 rfl ?_
      first | with_reducible refine x_iaddN (M := mX5_laid) (pc := 47) dX5_laid_47 ?_ | refine x_iadd (M := mX5_laid) (pc := 47) dX5_laid_47 ?_
      refine x_aload_n (M := mX5_laid) (pc := 48) dX5_laid_48 rfl ?_
      refine x_iload (M := mX5_laid) (pc := 49) dX5_laid_49 rfl ?_
      refine x_aaldN (M := mX5_laid) (pc := 51) (v := .ref (b k)) _ dX5_laid_51 ((xu_n (hmb _ hjm)).trans ((xu_n hBal).trans hb1')) rfl (by omega) (by omega) (by rw [hb2 _ (by omega)]; rfl) ?_
      refine x_aastN (M := mX5_laid) (pc := 52) (ma + k) dX5_laid_52 ((xu_n (hmal _ hjm).symm).trans (xu_s _ _ _)) (xIs.of kcX6 ((xu_n (hbm k _ (by omega) hjm)).trans ((xu_n (hbal k (by omega))).trans hbk1))) (Or.inl rfl) rfl (by omega) (by omega) ?_
      first | refine x_iinc5N (M := mX5_laid) (pc := 53) (c := 1) dX5_laid_53 oI1 ?_ | refine x_iinc5 (M := mX5_laid) (pc := 53) (c := 1) dX5_laid_53 (by decide) ?_
      refine x_goto (M := mX5_laid) (pc := 56) 14 dX5_laid_56 (by decide) ?_
      refine ih (k + 1) (by omega) (by omega) _ _ (xu_s _ _ _) (fun j hj => ?_) (fun j hj => ?_) (fun q e hq hz => ?_)
      · by_cases q : j = k
        · subst q
          have q1 : j ≠ ma + j := by omega
          simp [va_up]
          omega
        · have q1 : j ≠ ma + k := by omega
          have q2 : ma + j ≠ k := by omega
          have q3 : ma + j ≠ ma + k := by omega
          simp [va_up, q, q1, q2, q3]
          exact hf j (by omega)
      · rw [xu_n (hmal j hj)]
        by_cases q : j = ma - 1 - k
        · subst q
          rw [xu_s, if_pos (by omega)]
        · rw [xu_n (fun z => q (hinj _ _ hj hjm z)), xu_n (hmal j hj), hw j hj]
          by_cases q2 : ma - 1 - j < k
          · rw [if_pos q2, if_pos (by omega)]
          · rw [if_neg q2, if_neg (by omega)]
      · have hqal : q ≠ al := fun z => by rw [z, hal] at hz; cases hz
        rw [xu_n hqal, xu_n (hq _ hjm), xu_n hqal]
        exact hfr q e hq hz
end LAID

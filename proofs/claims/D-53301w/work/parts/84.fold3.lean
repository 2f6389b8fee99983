/-! Folding.fold -/
section FOLD3
set_option maxRecDepth 100000
variable {g : xG} {l : Launch} {h h0 : xH}
/-- while folding: p places are done -/
def FLI (g : xG) (h00 h1 : xH) (fo PL th wi0 hi wi ma f P : Nat) (ly : Nat → Lay) (pl La np : Nat → Nat) (p : Nat) : Prop :=
  h1 fo = some (.inr (5, [.int (nI hi), .int (nI wi), .ref PL])) ∧ (PLA g h1 PL (hi * wi) pl ∧ PL ≠ th) ∧
  (∀ q, q < hi * wi → LA g h1 (pl q) ma (fun k => La (ma * q + k)) ∧ pl q ≠ th) ∧
  (∀ t, t < hi * wi * ma → h1 (La t) = some (lyE ((ly t).1 / wi0) ((ly t).1 % wi0) (if fTg f hi wi p (t / ma) then lyT (decide (f < 3)) (ly t).2 else (ly t).2))) ∧
  (∃ f1, h1 th = some (.inl (xdA g 5, P, .inr (.inr (.inr (.inr f1))))) ∧ ∀ j, j < p → f1 j = some (np j)) ∧
  (∀ j, j < p → LA g h1 (np j) (2 * ma) (fun k => La (fSrc f hi wi ma (2 * ma * j + k))) ∧ np j ≠ th) ∧ xle h00 h1
theorem pos_lt {q n ma k : Nat} (hq : q < n) (hk : k < ma) : ma * q + k < n * ma := by
  have : ma * q + ma ≤ ma * n := by rw [← Nat.mul_succ]; exact Nat.mul_le_mul_left _ hq
  rw [Nat.mul_comm n ma]; omega
theorem j_foldL (h00 : xH) (fo PL th wi0 hi wi ma f P d : Nat) (hd : 4 ≤ d) (hP : P = p_hi f hi * p_wi f wi) (h1 : hi < 5) (h2 : wi < 5) (h3 : f < 5) (hf1 : 1 ≤ f) (hc : (sz3 hi && sz3 wi && p_can f hi wi) = true) (hma : 0 < ma) (hma8 : ma ≤ 8) (hn : hi * wi ≤ 16) (ly : Nat → Lay) (pl La : Nat → Nat) (hinj : ∀ t u, t < hi * wi * ma → u < hi * wi * ma → La t = La u → t = u) (hfr : ∀ t, t < hi * wi * ma → h00 (La t) = none) (hth : h00 th = none) (Q : xO → xH → Prop)
    (hE : ∀ h1 np, FLI g h00 h1 fo PL th wi0 hi wi ma f P ly pl La np P → X g l mX5_fold d (1 + P) (P + P * (2 * ma)) Q 85 [some (.ref fo), some (.int (nI f)), some (.int (nI (p_hi f hi))), some (.int (nI (p_wi f wi))), some (.ref th), some (.int (nI P))] [] h1 (1 + P) (P + P * (2 * ma))) :
    ∀ n p, P - p ≤ n → p ≤ P → ∀ h1 np, FLI g h00 h1 fo PL th wi0 hi wi ma f P ly pl La np p → X g l mX5_fold d (1 + P) (P + P * (2 * ma)) Q 53 [some (.ref fo), some (.int (nI f)), some (.int (nI (p_hi f hi))), some (.int (nI (p_wi f wi))), some (.ref th), some (.int (nI p))] [] h1 (1 + p) (P + p * (2 * ma)) := by
  have hP16 : P ≤ 16 := by
    rcases Nat.eq_zero_or_pos P with z | z
    · omega
    · have := (fold_fin h1 h2 h3 hc 0 (by omega)).2.2.2.2.2.2.2
      omega
  intro n
  induction n with
  | zero =>
    intro p hp hpP h1 np hI
    have : p = P := by omega
    subst this
    obtain ⟨i1, i2, i3, i4, ⟨f1, i5, i5'⟩, i6, i7⟩ := hI
    refine x_iload (M := mX5_fold) (pc := 53) dX5_fold_53 rfl ?_
    refine x_aload (M := mX5_fold) (pc := 55) dX5_fold_55 rfl ?_
    refine x_alen (M := mX5_fold) (pc := 57) dX5_fold_57 (by first | assumption | exact xu_s _ _ _ | exact (xu_n (by first | assumption | exact Ne.symm (by assumption) | exact xu_fresh (by assumption) (by assumption) | exact (xu_fresh (by assumption) (by assumption)).symm)).trans (by first | assumption | exact xu_s _ _ _ | exact (xu_n (by first | assumption | exact Ne.symm (by assumption) | exact xu_fresh (by assumption) (by assumption) | exact (xu_fresh (by assumption) (by assumption)).symm)).trans (by first | assumption | exact xu_s _ _ _ | exact (xu_n (by first | assumption | exact Ne.symm (by assumption) | exact xu_fresh (by assumption) (by assumption) | exact (xu_fresh (by assumption) (by assumption)).symm)).trans (by first | assumption | exact xu_s _ _ _)))) rfl ?_
    refine x_icmp_geN (M := mX5_fold) (pc := 58) (a := p) (b := p) 85 dX5_fold_58 (by decide) (by omega) (by omega) (fun z => ?_) (fun z => absurd z (by omega))
    exact hE h1 np ⟨i1, i2, i3, i4, ⟨f1, i5, i5'⟩, i6, i7⟩
  | succ n ih =>
    intro p hp hpP h1 np hI
    have hI0 := hI
    obtain ⟨i1, i2, i3, i4, ⟨f1, i5, i5'⟩, i6, i7⟩ := hI
    refine x_iload (M := mX5_fold) (pc := 53) dX5_fold_53 rfl ?_
    refine x_aload (M := mX5_fold) (pc := 55) dX5_fold_55 rfl ?_
    refine x_alen (M := mX5_fold) (pc := 57) dX5_fold_57 (by first | assumption | exact xu_s _ _ _ | exact (xu_n (by first | assumption | exact Ne.symm (by assumption) | exact xu_fresh (by assumption) (by assumption) | exact (xu_fresh (by assumption) (by assumption)).symm)).trans (by first | assumption | exact xu_s _ _ _ | exact (xu_n (by first | assumption | exact Ne.symm (by assumption) | exact xu_fresh (by assumption) (by assumption) | exact (xu_fresh (by assumption) (by assumption)).symm)).trans (by first | assumption | exact xu_s _ _ _ | exact (xu_n (by first | assumption | exact Ne.symm (by assumption) | exact xu_fresh (by assumption) (by assumption) | exact (xu_fresh (by assumption) (by assumption)).symm)).trans (by first | assumption | exact xu_s _ _ _)))) rfl ?_
    refine x_icmp_geN (M := mX5_fold) (pc := 58) (a := p) (b := P) 85 dX5_fold_58 (by decide) (by omega) (by omega) (fun z => ?_) (fun z => ?_)
    · have : p = P := by omega
      subst this
      exact hE h1 np hI0
    · obtain ⟨k1, k2, k3, k4, k5, k6, k7, k8⟩ := fold_fin (by assumption) (by assumption) (by assumption) hc p (by omega)
      have k9 := fun q (hq : q < P) => fold_fin2 (by assumption) (by assumption) (by assumption) hc p (by omega) q (by omega)
      have k9' := fun q (hq : q < P) => fold_fin2 (by assumption) (by assumption) (by assumption) hc q (by omega) p (by omega)
      have hpw : p_wi f wi ≤ 16 := by unfold p_wi; split <;> omega
      have hle : p * (2 * ma) + 2 * ma ≤ P * (2 * ma) := by rw [← Nat.succ_mul]; exact Nat.mul_le_mul_right _ (by omega)
      refine x_aload (M := mX5_fold) (pc := 61) dX5_fold_61 rfl ?_
      refine x_iload (M := mX5_fold) (pc := 63) dX5_fold_63 rfl ?_
      refine x_aload_n (M := mX5_fold) (pc := 65) dX5_fold_65 rfl ?_
      refine x_iload_n (M := mX5_fold) (pc := 66) dX5_fold_66 rfl ?_
      refine x_iload (M := mX5_fold) (pc := 67) dX5_fold_67 rfl ?_
      refine x_iload_n (M := mX5_fold) (pc := 69) dX5_fold_69 rfl ?_
      first | with_reducible refine x_idivN (M := mX5_fold) (pc := 70) dX5_fold_70 (by omega) (by omega) (by omega) ?_ | refine x_idiv (M := mX5_fold) (pc := 70) dX5_fold_70 (by first | decide | assumption) ?_
      refine x_iload (M := mX5_fold) (pc := 71) dX5_fold_71 rfl ?_
      refine x_iload_n (M := mX5_fold) (pc := 73) dX5_fold_73 rfl ?_
      first | with_reducible refine x_iremN (M := mX5_fold) (pc := 74) dX5_fold_74 (by omega) (by omega) (by omega) ?_ | refine x_irem (M := mX5_fold) (pc := 74) dX5_fold_74 (by first | decide | assumption) ?_
      have hgo : ∀ k, k < ma → ma * p_go f hi wi 1 p + k < hi * wi * ma := fun k hk => pos_lt k3 hk
      have hst : ∀ k, k < ma → ma * p_st f hi wi 1 p + k < hi * wi * ma := fun k hk => pos_lt k4 hk
      have hmk : ∀ k, k < ma → h1 (La (ma * p_go f hi wi 1 p + k)) = some (lyE ((ly (ma * p_go f hi wi 1 p + k)).1 / wi0) ((ly (ma * p_go f hi wi 1 p + k)).1 % wi0) (ly (ma * p_go f hi wi 1 p + k)).2) := fun k hk => by
        have := i4 _ (hgo k hk)
        rw [(dm hk).1, fTg_f (fun p' hp' e => by have := (k9' p' (by omega)).1 e; omega)] at this
        simpa using this
      have step : ∀ al h2 f2, h1 al = none → LA g h2 al (2 * ma) (fun k => if k < ma then La (ma * p_go f hi wi 1 p + (ma - 1 - k)) else La (ma * p_st f hi wi 1 p + (k - ma))) → (∀ k, k < ma → h2 (La (ma * p_go f hi wi 1 p + k)) = some (lyE ((ly (ma * p_go f hi wi 1 p + k)).1 / wi0) ((ly (ma * p_go f hi wi 1 p + k)).1 % wi0) (lyT (decide (f < 3)) (ly (ma * p_go f hi wi 1 p + k)).2))) → (∀ q e, (∀ k, k < ma → q ≠ La (ma * p_go f hi wi 1 p + k)) → h1 q = some e → h2 q = some e) → f2 = va_up f1 p (some al) → FLI g h00 (xu h2 th (.inl (xdA g 5, P, .inr (.inr (.inr (.inr f2)))))) fo PL th wi0 hi wi ma f P ly pl La (va_up np p al) (p + 1) := by
        rintro al h2 f2 hal w1 w2 w3 rfl
        have halth : al ≠ th := fun e => by rw [e, i5] at hal; cases hal
        have hLth : ∀ t, t < hi * wi * ma → La t ≠ th := fun t ht e => by have := i4 t ht; rw [e, i5] at this; cases this
        have arr : ∀ q x, h1 q = some (.inl x) → h2 q = some (.inl x) := fun q x hq => w3 q _ (fun k hk e => by rw [e, hmk k hk] at hq; cases hq) hq
        have lak : ∀ ar n a, LA g h1 ar n a → ar ≠ th → LA g (xu h2 th (.inl (xdA g 5, P, .inr (.inr (.inr (.inr (va_up f1 p (some al)))))))) ar n a := fun ar n a hA hne => by
          obtain ⟨ff, q1, q2⟩ := hA
          exact ⟨ff, (xu_n hne).trans (arr _ _ q1), q2⟩
        have hfoth : fo ≠ th := fun e => by rw [e, i5] at i1; cases i1
        refine ⟨(xu_n hfoth).trans (w3 fo _ (fun k hk e => by rw [e, hmk k hk] at i1; cases i1) i1), ⟨?_, i2.2⟩, fun q hq => ⟨lak _ _ _ (i3 q hq).1 (i3 q hq).2, (i3 q hq).2⟩, fun t ht => ?_, ⟨_, xu_s _ _ _, fun j hj => ?_⟩, fun j hj => ?_, fun q e hq => ?_⟩
        · obtain ⟨ff, q1, q2⟩ := i2.1
          exact ⟨ff, (xu_n i2.2).trans (arr _ _ q1), q2⟩
        · rw [xu_n (hLth t ht), fTg_s]
          by_cases q : p_go f hi wi 1 p = t / ma
          · have et : ma * p_go f hi wi 1 p + t % ma = t := by rw [q]; exact Nat.div_add_mod t ma
            have := w2 (t % ma) (Nat.mod_lt _ hma)
            rw [et] at this
            simpa [q] using this
          · have q' : (p_go f hi wi 1 p == t / ma) = false := by simpa using q
            rw [q', Bool.or_false]
            refine w3 _ _ (fun k hk e => ?_) (i4 t ht)
            have := hinj _ _ ht (hgo k hk) e
            exact q (by rw [this, (dm hk).1])
        · by_cases q : j = p
          · subst q; simp [va_up]
          · simp [va_up, q]; exact i5' j (by omega)
        · by_cases q : j = p
          · subst q
            simp only [va_up, if_true]
            obtain ⟨ff, q1, q2⟩ := w1
            refine ⟨⟨ff, (xu_n halth).trans q1, fun k hk => ?_⟩, halth⟩
            rw [q2 k hk]
            have e1 := dm (ma := 2 * ma) (G := j) hk
            unfold fSrc
            simp only [e1.1, e1.2]
            by_cases qq : k < ma <;> simp [qq]
          · simp only [va_up, q, if_false]
            exact ⟨lak _ _ _ (i6 j (by omega)).1 (i6 j (by omega)).2, (i6 j (by omega)).2⟩
        · have q1 := i7 q e hq
          rw [xu_n (fun z => by rw [z, hth] at hq; cases hq)]
          exact w3 q e (fun k hk z => by rw [z, hfr _ (hgo k hk)] at hq; cases hq) q1
      refine x_V3 (M := mX5_fold) (pc := 75) (M' := mX5_folded) q513 kVX5_folded dX5_fold_75 (c_folded h1 fo PL hi wi (hi * wi) ma f (p / p_wi f wi) (p % p_wi f wi) (d - 1) (by omega) hma8 pl i1 i2.1 hn (by omega) (by omega) hf1 (by omega) k5 k6 (by rw [k1]; exact k3) (by rw [k2]; exact k4) (fun k => La (ma * p_go f hi wi 1 p + k)) (fun k => La (ma * p_st f hi wi 1 p + k)) _ _ _ (fun i j hi hj e => by have := hinj _ _ (hgo i hi) (hgo j hj) e; omega) (fun i j hi hj e => by have := hinj _ _ (hst i hi) (hgo j hj) e; have e2 := congrArg (· / ma) this; simp only [(dm hi).1, (dm hj).1] at e2; exact (k9 p (by omega)).2.2 e2.symm) (by rw [k1]; exact (i3 _ k3).1) (by rw [k2]; exact (i3 _ k4).1) hmk (fun k hk => ⟨_, i4 _ (hst k hk)⟩)) (xIs.of kcX5 i1) (fun v_ h hq_ => ?_)
      obtain ⟨al, hv_, hal, w1, w2, w3⟩ := hq_; cases hv_
      skip
      have w1' := w1
      obtain ⟨ff, q1, q2⟩ := w1'
      have i5h := w3 th _ (fun k hk e => by rw [e, hmk k hk] at i5; cases i5) i5
      refine x_aastA (M := mX5_fold) (pc := 78) p dX5_fold_78 i5h q1 rfl (by omega) (by omega) ?_
      first | refine x_iinc5N (M := mX5_fold) (pc := 79) (c := 1) dX5_fold_79 oI1 ?_ | refine x_iinc5 (M := mX5_fold) (pc := 79) (c := 1) dX5_fold_79 (by decide) ?_
      refine x_goto (M := mX5_fold) (pc := 82) 53 dX5_fold_82 (by decide) ?_
      have e : P + p * (2 * ma) + 2 * ma = P + (p + 1) * (2 * ma) := by rw [Nat.add_mul p 1 (2 * ma), Nat.one_mul (2 * ma), Nat.add_assoc]
      rw [e, Nat.add_assoc 1 p 1]
      exact ih (p + 1) (by omega) (by omega) _ _ (step al _ _ hal w1 w2 w3 rfl)
/-- a folding, all of its cells new since h00 -/
def FD (g : xG) (h00 h : xH) (fo wi0 hi wi ma : Nat) (ly : Nat → Lay) : Prop := ∃ (PL : Nat) (pl La : Nat → Nat), h fo = some (.inr (5, [.int (nI hi), .int (nI wi), .ref PL])) ∧ PLA g h PL (hi * wi) pl ∧ (∀ q, q < hi * wi → LA g h (pl q) ma (fun k => La (ma * q + k))) ∧ (∀ t, t < hi * wi * ma → h (La t) = some (lyE ((ly t).1 / wi0) ((ly t).1 % wi0) (ly t).2)) ∧ (∀ t u, t < hi * wi * ma → u < hi * wi * ma → La t = La u → t = u) ∧ h00 fo = none ∧ (∀ t, t < hi * wi * ma → h00 (La t) = none) ∧ xle h00 h
theorem j_fold42 (h00 h : xH) (fo wi0 hi wi ma f hi' wi' d : Nat) (hd : 4 ≤ d) (e1 : hi' = p_hi f hi) (e2 : wi' = p_wi f wi) (h1 : hi < 5) (h2 : wi < 5) (h3 : f < 5) (hf1 : 1 ≤ f) (hc : (sz3 hi && sz3 wi && p_can f hi wi) = true) (hma : 0 < ma) (hma8 : ma ≤ 8) (hn : hi * wi ≤ 16) (ly : Nat → Lay) (hF : FD g h00 h fo wi0 hi wi ma ly) (P : Nat) (hP : P = p_hi f hi * p_wi f wi) :
    X g l mX5_fold d (1 + P) (P + P * (2 * ma)) (fun o h' => o = .inl none ∧ FD g h00 h' fo wi0 hi' wi' (2 * ma) (p_fold f hi wi ma ly)) 42 [some (.ref fo), some (.int (nI f)), some (.int (nI hi')), some (.int (nI wi')), none, none] [] h 0 0 := by
  subst e1; subst e2
  obtain ⟨PL, pl, La, f1, f2, f3, f4, f5, f6, f7, f8⟩ := hF
  have hP0 : 0 < P := by
    rw [hP]; unfold p_hi p_wi
    simp only [sz3, p_can, Bool.and_eq_true, Bool.or_eq_true, beq_iff_eq, decide_eq_true_eq] at hc
    obtain ⟨⟨c1, c2⟩, c3, c4⟩ := hc
    by_cases q : f < 3
    · rw [if_pos q] at c4 ⊢; rw [if_pos q]; simp at c4; exact Nat.mul_pos (by omega) (by omega)
    · rw [if_neg q] at c4 ⊢; rw [if_neg q]; simp at c4; exact Nat.mul_pos (by omega) (by omega)
  have k8 : P * 2 = hi * wi := by
    have := (fold_fin h1 h2 h3 hc 0 (by omega)).2.2.2.2.2.2.2
    rw [hP]; exact this
  have hNN : P * (2 * ma) = hi * wi * ma := by rw [← k8, Nat.mul_assoc]
  refine x_iload_n (M := mX5_fold) (pc := 42) dX5_fold_42 rfl ?_
  refine x_iload_n (M := mX5_fold) (pc := 43) dX5_fold_43 rfl ?_
  first | with_reducible refine x_imulN (M := mX5_fold) (pc := 44) dX5_fold_44 ?_ | refine x_imul (M := mX5_fold) (pc := 44) dX5_fold_44 ?_
  refine x_anewA (M := mX5_fold) (pc := 45) P q512 dX5_fold_45 (by rw [hP]) (by omega) (by omega) (by omega) (fun th hth hbt => ?_)
  refine x_astore4 (M := mX5_fold) (pc := 48) dX5_fold_48 ?_
  refine x_iconst (M := mX5_fold) (pc := 50) (v := nI 0) dX5_fold_50 (by decide) ?_
  refine x_istore5 (M := mX5_fold) (pc := 51) dX5_fold_51 ?_
  have hfoth : fo ≠ th := fun e => by rw [e, hth] at f1; cases f1
  have hth0 : h00 th = none := f8.none hth
  have hin : ∀ u us, u = 1 → us = P → X g l mX5_fold d (1 + P) (P + P * (2 * ma)) (fun o h' => o = .inl none ∧ FD g h00 h' fo wi0 (p_hi f hi) (p_wi f wi) (2 * ma) (p_fold f hi wi ma ly)) 53 [some (.ref fo), some (.int (nI f)), some (.int (nI (p_hi f hi))), some (.int (nI (p_wi f wi))), some (.ref th), some (.int (nI 0))] [] (xu h th (.inl (xdA g 5, P, .inr (.inr (.inr (.inr (fun _ => none))))))) u us := by
    rintro u us rfl rfl
    have hk2 : ∀ p, p < us → ∀ q, q < us → ((p_go f hi wi 1 p = p_go f hi wi 1 q → p = q) ∧ (p_st f hi wi 1 p = p_st f hi wi 1 q → p = q) ∧ p_go f hi wi 1 p ≠ p_st f hi wi 1 q) := fun p hp q hq => fold_fin2 h1 h2 h3 hc p (by omega) q (by omega)
    have hdv : ∀ t, t < p_hi f hi * p_wi f wi * (2 * ma) → t / (2 * ma) < us := fun t ht => by rw [hP]; exact Nat.div_lt_of_lt_mul (by rw [Nat.mul_comm]; exact ht)
    have hbd : ∀ t, t < p_hi f hi * p_wi f wi * (2 * ma) → fSrc f hi wi ma t < hi * wi * ma := fun t ht => by
      have a1 := hdv t ht
      have a2 := Nat.mod_lt t (show 2 * ma > 0 by omega)
      have a3 := fold_fin h1 h2 h3 hc (t / (2 * ma)) (by omega)
      unfold fSrc
      split
      · exact pos_lt a3.2.2.1 (by omega)
      · exact pos_lt a3.2.2.2.1 (by omega)
    have := j_foldL (g := g) (l := l) h00 fo PL th wi0 hi wi ma f us d hd hP h1 h2 h3 hf1 hc hma hma8 hn ly pl La f5 f7 hth0 (fun o h' => o = .inl none ∧ FD g h00 h' fo wi0 (p_hi f hi) (p_wi f wi) (2 * ma) (p_fold f hi wi ma ly)) (fun h1 np hI => ?_) us 0 (by omega) (by omega) (xu h th (.inl (xdA g 5, us, .inr (.inr (.inr (.inr (fun _ => none))))))) (fun _ => 0) ?_
    · rw [Nat.zero_mul] at this; exact this
    · obtain ⟨i1, i2, i3, i4, i5, i6, i7⟩ := hI
      refine x_aload_n (M := mX5_fold) (pc := 85) dX5_fold_85 rfl ?_
      refine x_iload_n (M := mX5_fold) (pc := 86) dX5_fold_86 rfl ?_
      first | refine x_put0' (M := mX5_fold) (pc := 87) kcX5 q493 dX5_fold_87 ?_ | refine x_put0 (M := mX5_fold) (pc := 87) kcX5 q493 dX5_fold_87 (by first | assumption | exact xu_s _ _ _ | exact (xu_n (by first | assumption | exact Ne.symm (by assumption) | exact xu_fresh (by assumption) (by assumption) | exact (xu_fresh (by assumption) (by assumption)).symm)).trans (by first | assumption | exact xu_s _ _ _ | exact (xu_n (by first | assumption | exact Ne.symm (by assumption) | exact xu_fresh (by assumption) (by assumption) | exact (xu_fresh (by assumption) (by assumption)).symm)).trans (by first | assumption | exact xu_s _ _ _ | exact (xu_n (by first | assumption | exact Ne.symm (by assumption) | exact xu_fresh (by assumption) (by assumption) | exact (xu_fresh (by assumption) (by assumption)).symm)).trans (by first | assumption | exact xu_s _ _ _)))) ?_
      refine x_aload_n (M := mX5_fold) (pc := 90) dX5_fold_90 rfl ?_
      refine x_iload_n (M := mX5_fold) (pc := 91) dX5_fold_91 rfl ?_
      first | refine x_put1' (M := mX5_fold) (pc := 92) kcX5 q494 dX5_fold_92 ?_ | refine x_put1 (M := mX5_fold) (pc := 92) kcX5 q494 dX5_fold_92 (by first | assumption | exact xu_s _ _ _ | exact (xu_n (by first | assumption | exact Ne.symm (by assumption) | exact xu_fresh (by assumption) (by assumption) | exact (xu_fresh (by assumption) (by assumption)).symm)).trans (by first | assumption | exact xu_s _ _ _ | exact (xu_n (by first | assumption | exact Ne.symm (by assumption) | exact xu_fresh (by assumption) (by assumption) | exact (xu_fresh (by assumption) (by assumption)).symm)).trans (by first | assumption | exact xu_s _ _ _ | exact (xu_n (by first | assumption | exact Ne.symm (by assumption) | exact xu_fresh (by assumption) (by assumption) | exact (xu_fresh (by assumption) (by assumption)).symm)).trans (by first | assumption | exact xu_s _ _ _)))) ?_
      refine x_aload_n (M := mX5_fold) (pc := 95) dX5_fold_95 rfl ?_
      refine x_aload (M := mX5_fold) (pc := 96) dX5_fold_96 rfl ?_
      first | refine x_put2' (M := mX5_fold) (pc := 98) kcX5 q496 dX5_fold_98 ?_ | refine x_put2 (M := mX5_fold) (pc := 98) kcX5 q496 dX5_fold_98 (by first | assumption | exact xu_s _ _ _ | exact (xu_n (by first | assumption | exact Ne.symm (by assumption) | exact xu_fresh (by assumption) (by assumption) | exact (xu_fresh (by assumption) (by assumption)).symm)).trans (by first | assumption | exact xu_s _ _ _ | exact (xu_n (by first | assumption | exact Ne.symm (by assumption) | exact xu_fresh (by assumption) (by assumption) | exact (xu_fresh (by assumption) (by assumption)).symm)).trans (by first | assumption | exact xu_s _ _ _ | exact (xu_n (by first | assumption | exact Ne.symm (by assumption) | exact xu_fresh (by assumption) (by assumption) | exact (xu_fresh (by assumption) (by assumption)).symm)).trans (by first | assumption | exact xu_s _ _ _)))) ?_
      refine x_vret (M := mX5_fold) (pc := 101) dX5_fold_101 rfl (by first | exact Nat.le_of_ble_eq_true rfl | omega) (by first | exact Nat.le_of_ble_eq_true rfl | omega) ?_
      refine ⟨rfl, th, np, fun t => La (fSrc f hi wi ma t), xu_s _ _ _, ?_, ?_, ?_, ?_, f6, ?_, ?_⟩
      · obtain ⟨ff, q1, q2⟩ := i5
        rw [← hP]; exact ⟨ff, (xu_n hfoth.symm).trans q1, q2⟩
      · intro q hq
        obtain ⟨ff, q1, q2⟩ := (i6 q (by rw [hP]; exact hq)).1
        exact ⟨ff, (xu_n (fun e => by rw [e, i1] at q1; cases q1)).trans q1, q2⟩
      · intro t ht
        have hb := hbd t ht
        show xu h1 fo _ (La (fSrc f hi wi ma t)) = _
        rw [xu_n (fun e => by have := i4 _ hb; rw [e, i1] at this; cases this), i4 _ hb, p_fold_src, fSrc_div hma]
        have hdt := hdv t ht
        by_cases q : t % (2 * ma) < ma
        · rw [if_pos q, if_pos q, fTg_t hdt, if_pos rfl, p_turn_ly]
        · rw [if_neg q, if_neg q, fTg_f (fun p' hp' => (hk2 p' hp' _ hdt).2.2), if_neg (by simp)]
      · intro t u ht hu e
        exact fSrc_inj hma us hk2 (hdv t ht) (hdv u hu) (f5 _ _ (hbd t ht) (hbd u hu) e)
      · exact fun t ht => f7 _ (hbd t ht)
      · exact fun q e hq => (xu_n (fun z => by rw [z, f6] at hq; cases hq)).trans (i7 q e hq)
    · refine ⟨(xu_n hfoth).trans f1, ⟨f2.le (fun e he => (xle.fr hth) _ _ he), fun e => ?_⟩, fun q hq => ⟨(f3 q hq).le (fun e he => (xle.fr hth) _ _ he), fun e => ?_⟩, fun t ht => ?_, ⟨_, xu_s _ _ _, fun j hj => absurd hj (by omega)⟩, fun j hj => absurd hj (by omega), f8.tr (xle.fr hth)⟩
      · obtain ⟨ff, q1, _⟩ := f2; rw [e, hth] at q1; cases q1
      · obtain ⟨ff, q1, _⟩ := f3 q hq; rw [e, hth] at q1; cases q1
      · rw [xle.fr hth _ _ (f4 t ht)]; simp [fTg]
  exact hin _ _ rfl (Nat.zero_add P)
theorem cc_fold (h00 h : xH) (fo wi0 hi wi ma f d : Nat) (hd : 4 ≤ d) (h1 : hi < 5) (h2 : wi < 5) (h3 : f < 5) (hf1 : 1 ≤ f) (hc : (sz3 hi && sz3 wi && p_can f hi wi) = true) (hma : 0 < ma) (hma8 : ma ≤ 8) (hn : hi * wi ≤ 16) (ly : Nat → Lay) (hF : FD g h00 h fo wi0 hi wi ma ly) (P : Nat) (hP : P = p_hi f hi * p_wi f wi) :
    Ct g l mX5_fold d (1 + P) (P + P * (2 * ma)) [.ref fo, .int (nI f)] h (fun o h' => o = .inl none ∧ FD g h00 h' fo wi0 (p_hi f hi) (p_wi f wi) (2 * ma) (p_fold f hi wi ma ly)) := by
  have hF0 := hF
  obtain ⟨PL, pl, La, f1, -⟩ := hF
  refine Ct.of [some (.ref fo), some (.int (nI f)), none, none, none, none] (by decide +kernel) rfl (Nat.le_of_ble_eq_true rfl) rfl rfl ?_
  refine x_iload_n (M := mX5_fold) (pc := 0) dX5_fold_0 rfl ?_
  refine x_S1 (M := mX5_fold) (pc := 1) (M' := mX5_isAcross) q509 kSX5_isAcross dX5_fold_1 (c_isAcross h f (d - 1) (by omega)) (fun v_ h hq_ => ?_)
  obtain ⟨hv_, rfl⟩ := hq_; cases hv_
  skip
  refine x_ifB_eq (M := mX5_fold) (pc := 4) 14 dX5_fold_4 (by decide) (fun e => ?_) (fun e => ?_)
  · have e : ¬ f < 3 := by simpa using e
    refine x_aload_n (M := mX5_fold) (pc := 14) dX5_fold_14 rfl ?_
    refine x_get (M := mX5_fold) (pc := 15) kcX5 0 rfl q493 dX5_fold_15 (by first | assumption | exact xu_s _ _ _ | exact (xu_n (by first | assumption | exact Ne.symm (by assumption) | exact xu_fresh (by assumption) (by assumption) | exact (xu_fresh (by assumption) (by assumption)).symm)).trans (by first | assumption | exact xu_s _ _ _ | exact (xu_n (by first | assumption | exact Ne.symm (by assumption) | exact xu_fresh (by assumption) (by assumption) | exact (xu_fresh (by assumption) (by assumption)).symm)).trans (by first | assumption | exact xu_s _ _ _ | exact (xu_n (by first | assumption | exact Ne.symm (by assumption) | exact xu_fresh (by assumption) (by assumption) | exact (xu_fresh (by assumption) (by assumption)).symm)).trans (by first | assumption | exact xu_s _ _ _)))) rfl ?_
    refine x_iconst (M := mX5_fold) (pc := 18) (v := nI 2) dX5_fold_18 (by decide) ?_
    first | with_reducible refine x_idivN (M := mX5_fold) (pc := 19) dX5_fold_19 (by omega) (by omega) (by omega) ?_ | refine x_idiv (M := mX5_fold) (pc := 19) dX5_fold_19 (by first | decide | assumption) ?_
    refine x_istore2 (M := mX5_fold) (pc := 20) dX5_fold_20 ?_
    refine x_iload_n (M := mX5_fold) (pc := 21) dX5_fold_21 rfl ?_
    refine x_S1 (M := mX5_fold) (pc := 22) (M' := mX5_isAcross) q509 kSX5_isAcross dX5_fold_22 (c_isAcross h f (d - 1) (by omega)) (fun v_ h hq_ => ?_)
    obtain ⟨hv_, rfl⟩ := hq_; cases hv_
    skip
    refine x_ifB_eq (M := mX5_fold) (pc := 25) 37 dX5_fold_25 (by decide) (fun e' => ?_) (fun e' => absurd (by simpa using e') e)
    refine x_aload_n (M := mX5_fold) (pc := 37) dX5_fold_37 rfl ?_
    refine x_get (M := mX5_fold) (pc := 38) kcX5 1 rfl q494 dX5_fold_38 (by first | assumption | exact xu_s _ _ _ | exact (xu_n (by first | assumption | exact Ne.symm (by assumption) | exact xu_fresh (by assumption) (by assumption) | exact (xu_fresh (by assumption) (by assumption)).symm)).trans (by first | assumption | exact xu_s _ _ _ | exact (xu_n (by first | assumption | exact Ne.symm (by assumption) | exact xu_fresh (by assumption) (by assumption) | exact (xu_fresh (by assumption) (by assumption)).symm)).trans (by first | assumption | exact xu_s _ _ _ | exact (xu_n (by first | assumption | exact Ne.symm (by assumption) | exact xu_fresh (by assumption) (by assumption) | exact (xu_fresh (by assumption) (by assumption)).symm)).trans (by first | assumption | exact xu_s _ _ _)))) rfl ?_
    refine x_istore3 (M := mX5_fold) (pc := 41) dX5_fold_41 ?_
    have a1 : p_hi f hi = hi / 2 := if_neg e
    have a2 : p_wi f wi = wi := if_neg e
    rw [a1, a2]
    exact j_fold42 h00 h fo wi0 hi wi ma f _ _ d hd a1.symm a2.symm h1 h2 h3 hf1 hc hma hma8 hn ly hF0 P hP
  · have e : f < 3 := by simpa using e
    refine x_aload_n (M := mX5_fold) (pc := 7) dX5_fold_7 rfl ?_
    refine x_get (M := mX5_fold) (pc := 8) kcX5 0 rfl q493 dX5_fold_8 (by first | assumption | exact xu_s _ _ _ | exact (xu_n (by first | assumption | exact Ne.symm (by assumption) | exact xu_fresh (by assumption) (by assumption) | exact (xu_fresh (by assumption) (by assumption)).symm)).trans (by first | assumption | exact xu_s _ _ _ | exact (xu_n (by first | assumption | exact Ne.symm (by assumption) | exact xu_fresh (by assumption) (by assumption) | exact (xu_fresh (by assumption) (by assumption)).symm)).trans (by first | assumption | exact xu_s _ _ _ | exact (xu_n (by first | assumption | exact Ne.symm (by assumption) | exact xu_fresh (by assumption) (by assumption) | exact (xu_fresh (by assumption) (by assumption)).symm)).trans (by first | assumption | exact xu_s _ _ _)))) rfl ?_
    refine x_goto (M := mX5_fold) (pc := 11) 20 dX5_fold_11 (by decide) ?_
    refine x_istore2 (M := mX5_fold) (pc := 20) dX5_fold_20 ?_
    refine x_iload_n (M := mX5_fold) (pc := 21) dX5_fold_21 rfl ?_
    refine x_S1 (M := mX5_fold) (pc := 22) (M' := mX5_isAcross) q509 kSX5_isAcross dX5_fold_22 (c_isAcross h f (d - 1) (by omega)) (fun v_ h hq_ => ?_)
    obtain ⟨hv_, rfl⟩ := hq_; cases hv_
    skip
    refine x_ifB_eq (M := mX5_fold) (pc := 25) 37 dX5_fold_25 (by decide) (fun e' => absurd e (by simpa using e')) (fun e' => ?_)
    refine x_aload_n (M := mX5_fold) (pc := 28) dX5_fold_28 rfl ?_
    refine x_get (M := mX5_fold) (pc := 29) kcX5 1 rfl q494 dX5_fold_29 (by first | assumption | exact xu_s _ _ _ | exact (xu_n (by first | assumption | exact Ne.symm (by assumption) | exact xu_fresh (by assumption) (by assumption) | exact (xu_fresh (by assumption) (by assumption)).symm)).trans (by first | assumption | exact xu_s _ _ _ | exact (xu_n (by first | assumption | exact Ne.symm (by assumption) | exact xu_fresh (by assumption) (by assumption) | exact (xu_fresh (by assumption) (by assumption)).symm)).trans (by first | assumption | exact xu_s _ _ _ | exact (xu_n (by first | assumption | exact Ne.symm (by assumption) | exact xu_fresh (by assumption) (by assumption) | exact (xu_fresh (by assumption) (by assumption)).symm)).trans (by first | assumption | exact xu_s _ _ _)))) rfl ?_
    refine x_iconst (M := mX5_fold) (pc := 32) (v := nI 2) dX5_fold_32 (by decide) ?_
    first | with_reducible refine x_idivN (M := mX5_fold) (pc := 33) dX5_fold_33 (by omega) (by omega) (by omega) ?_ | refine x_idiv (M := mX5_fold) (pc := 33) dX5_fold_33 (by first | decide | assumption) ?_
    refine x_goto (M := mX5_fold) (pc := 34) 41 dX5_fold_34 (by decide) ?_
    refine x_istore3 (M := mX5_fold) (pc := 41) dX5_fold_41 ?_
    have a1 : p_hi f hi = hi := if_pos e
    have a2 : p_wi f wi = wi / 2 := if_pos e
    rw [a1, a2]
    exact j_fold42 h00 h fo wi0 hi wi ma f _ _ d hd a1.symm a2.symm h1 h2 h3 hf1 hc hma hma8 hn ly hF0 P hP
end FOLD3

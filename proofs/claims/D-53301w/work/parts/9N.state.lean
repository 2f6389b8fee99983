/-! the class's state -/
section STATE
set_option maxRecDepth 100000
variable {g : xG} {l : Launch} {h h0 h' : xH}
theorem AL.obj {a arr : Nat} {xs : List Nat} (hA : AL g h a arr xs) : h a ≠ none := by obtain ⟨m, c, f, q⟩ := hA; rw [q.1]; simp
theorem AL.ar {a arr : Nat} {xs : List Nat} (hA : AL g h a arr xs) : arr = xca g 0 0 ∨ h arr ≠ none := by
  obtain ⟨m, c, f, q⟩ := hA
  rcases q.2.1 with y | ⟨y, -⟩
  · right; rw [y]; simp
  · exact Or.inl y
/-- a sheet stays where its cells stay -/
theorem SH.kp {O O' : Nat → Prop} {sh : Nat} {s : Row} (hS : SH g h O sh s) (hx : h (xca g 0 0) = none) (K : ∀ a e, h a = some e → (O a ∨ isSN e = true) → h' a = some e) (hO : ∀ a, O a → h a ≠ none → O' a) : SH g h' O' sh s := by
  obtain ⟨P, xs, ys, ⟨n1, ⟨f2, n2, u2⟩, ⟨f3, n3, u3⟩, ⟨f4, n4, u4⟩, ⟨f5, n5, u5⟩, hA, hB, h8⟩, o1, o2, o3, o4⟩ := hS
  refine ⟨P, xs, ys, ⟨K _ _ n1 (Or.inl o1), ⟨f2, K _ _ n2 (Or.inl (o2 0 (by omega))), u2⟩, ⟨f3, K _ _ n3 (Or.inl (o2 1 (by omega))), u3⟩, ⟨f4, K _ _ n4 (Or.inl (o2 2 (by omega))), u4⟩, ⟨f5, K _ _ n5 (Or.inl (o2 5 (by omega))), u5⟩, hA.keep (fun fs q => K _ _ q (Or.inl (o2 3 (by omega)))) (fun t m f q => ?_) (fun k hk p q => K _ _ q (Or.inr rfl)) rfl (fun _ _ => rfl), hB.keep (fun fs q => K _ _ q (Or.inl (o2 4 (by omega)))) (fun t m f q => ?_) (fun k hk p q => K _ _ q (Or.inr rfl)) rfl (fun _ _ => rfl), h8⟩, hO _ o1 (by rw [n1]; simp), fun i hi => hO _ (o2 i hi) ?_, ?_, ?_⟩
  · rcases o3 with r | r
    · rw [r, hx] at q; cases q
    · exact K _ _ q (Or.inl r)
  · rcases o4 with r | r
    · rw [r, hx] at q; cases q
    · exact K _ _ q (Or.inl r)
  · rcases (by omega : i = 0 ∨ i = 1 ∨ i = 2 ∨ i = 3 ∨ i = 4 ∨ i = 5) with rfl | rfl | rfl | rfl | rfl | rfl
    · rw [n2]; simp
    · rw [n3]; simp
    · rw [n4]; simp
    · exact hA.1.obj
    · exact hB.1.obj
    · rw [n5]; simp
  · rcases o3 with r | r
    · exact Or.inl r
    · exact hA.1.ar.imp id (hO _ r)
  · rcases o4 with r | r
    · exact Or.inl r
    · exact hB.1.ar.imp id (hO _ r)
theorem SH.row {O : Nat → Prop} {sh : Nat} {s s' : Row} (hS : SH g h O sh s) (hb : zN s 12 ≤ 8 ∧ zN s 37 ≤ 12) (hs : ∀ k, k < 154 → s' k = s k) : SH g h O sh s' := by
  obtain ⟨P, xs, ys, ⟨n1, n2, n3, n4, n5, hA, hB, h8⟩, ho⟩ := hS
  refine ⟨P, xs, ys, ⟨by rw [shE_c (fun k hk => hs k (by omega))]; exact n1, n2.keep (fun _ z => z) (fun k hk => hs _ (by omega)), n3.keep (fun _ z => z) (fun k hk => congrArg zNone (hs _ (by omega))), n4.keep (fun _ z => z) (fun k hk => hs _ (by omega)), n5.keep (fun _ z => z) (fun k hk => hs _ (by omega)), hA.keep (fun _ z => z) (fun _ _ _ z => z) (fun _ _ _ z => z) (zN_c (hs _ (by omega))) (fun k hk => sgE_c (by omega) (fun j hj => hs j (by omega))), hB.keep (fun _ z => z) (fun _ _ _ z => z) (fun _ _ _ z => z) (zN_c (hs _ (by omega))) (fun k hk => ntE_c (by omega) (fun j hj => hs j (by omega))), h8⟩, ho⟩
/-- a desk, its sheet, its row -/
abbrev HE : Type := Nat × Nat × Row
/-- a snapshot's slot -/
def SLT (g : xG) (h : xH) (ow : Nat → Option Nat) (s : Row) (j : Nat) (o : Option Nat) : Prop := (o = none ∧ s (154 + j) = 0) ∨ ∃ q, o = some q ∧ s (154 + j) = 1 ∧ SH g h (fun a => ow a = none) q (fun k => s (156 + 154 * j + k))
/-- a desk: ow tells who owns a cell -/
def DK (g : xG) (h : xH) (ow : Nat → Option Nat) (x : HE) : Prop := ∃ sl f, h x.1 = some (.inr (1, [.ref x.2.1, .ref sl])) ∧ h sl = some (.inl (xdA g 6, 2, .inr (.inr (.inr (.inr f))))) ∧ ow x.1 = some x.1 ∧ ow sl = some x.1 ∧ SH g h (fun a => ow a = some x.2.1) x.2.1 x.2.2 ∧ ∀ j, j < 2 → SLT g h ow x.2.2 j (f j)
theorem SLT.kp {ow ow' : Nat → Option Nat} {s : Row} {j : Nat} {o : Option Nat} (hS : SLT g h ow s j o) (hx : h (xca g 0 0) = none) (K : ∀ a e, h a = some e → (ow a = none ∨ isSN e = true) → h' a = some e) (hw : ∀ a, h a ≠ none → ow' a = ow a) : SLT g h' ow' s j o := by
  rcases hS with r | ⟨q, r1, r2, r3⟩
  · exact Or.inl r
  · exact Or.inr ⟨q, r1, r2, r3.kp hx K (fun a ha hn => (hw a hn).trans ha)⟩
theorem DK.kp {ow ow' : Nat → Option Nat} {x : HE} (hD : DK g h ow x) (hx : h (xca g 0 0) = none) (K : ∀ a e, h a = some e → (ow a = some x.1 ∨ ow a = some x.2.1 ∨ ow a = none ∨ isSN e = true) → h' a = some e) (hw : ∀ a, h a ≠ none → ow' a = ow a) : DK g h' ow' x := by
  obtain ⟨sl, f, h1, h2, w1, w2, hS, hT⟩ := hD
  exact ⟨sl, f, K _ _ h1 (Or.inl w1), K _ _ h2 (Or.inl w2), (hw _ (by rw [h1]; simp)).trans w1, (hw _ (by rw [h2]; simp)).trans w2, hS.kp hx (fun a e ha q => K a e ha (q.elim (fun z => Or.inr (Or.inl z)) (fun z => Or.inr (Or.inr (Or.inr z))))) (fun a ha hn => (hw a hn).trans ha), fun j hj => (hT j hj).kp hx (fun a e ha q => K a e ha (Or.inr (Or.inr q))) hw⟩
/-- the class's object cb: desk x, history hs, text -/
def ST (g : xG) (h : xH) (ow : Nat → Option Nat) (cb dq arr hd sb tb len : Nat) (tx : Nat → Nat) (x : HE) (hs : List HE) : Prop :=
  h cb = some (.inr (0, [.ref x.1, .ref dq, .ref sb])) ∧ (∀ y ∈ x :: hs, DK g h ow y ∧ WS y.2.2) ∧ ((x :: hs).map (fun y => y.1)).Nodup ∧ ((x :: hs).map (fun y => y.2.1)).Nodup ∧ DQ g h dq arr hd (hs.map (fun y => y.1)) ∧ SB g h sb tb len tx ∧ (ow cb = some cb ∧ ow dq = some dq ∧ ow arr = some dq ∧ ow sb = some sb ∧ ow tb = some sb) ∧ hs.length ≤ 5 ∧ len ≤ 120
theorem ST.le {ow : Nat → Option Nat} {cb dq arr hd sb tb len : Nat} {tx : Nat → Nat} {x : HE} {hs : List HE} (hS : ST g h ow cb dq arr hd sb tb len tx x hs) (hx : h (xca g 0 0) = none) (hl : xle h h') : ST g h' ow cb dq arr hd sb tb len tx x hs := by
  obtain ⟨h1, h2, h3, h4, h5, h6, h7⟩ := hS
  exact ⟨hl _ _ h1, fun y hy => ⟨(h2 y hy).1.kp hx (fun a e ha _ => hl a e ha) (fun _ _ => rfl), (h2 y hy).2⟩, h3, h4, h5.le2 (hl _) (hl _), h6.le2 (hl _) (hl _), h7⟩
/-- what an operation of the class leaves: cells that others own; owners of what was there -/
def KP (ow : Nat → Option Nat) (m : Nat) (h : xH) (ow' : Nat → Option Nat) (h' : xH) : Prop := (∀ a e, h a = some e → ow a = some m → h' a = some e) ∧ ∀ a, h a ≠ none → ow' a = ow a
theorem c_remember (hh : xH) (cb dq arr hd d v : Nat) (hd1 : 3 ≤ d) (v0 v2 : Value) (ds : List Nat) (hcb : hh cb = some (.inr (0, [v0, .ref dq, v2]))) (hD : DQ g hh dq arr hd ds) (hl : ds.length ≤ 5) (hv : hh v ≠ none) (hvd : ∃ fs, hh v = some (.inr (1, fs))) : Ct g l mX0_remember d 0 0 [.ref cb, .ref v] hh (fun o h' => o = .inl none ∧ ∃ hd', DQ g h' dq arr hd' ((if ds.length = 5 then ds.tail else ds) ++ [v]) ∧ xle2 dq arr hh h') := by
  obtain ⟨fsv, hvd⟩ := hvd
  have ncd : cb ≠ dq := fun z => by have := hD.1; rw [← z, hcb] at this; cases this
  refine Ct.of [some (.ref cb), some (.ref v)] (by decide +kernel) rfl (Nat.le_of_ble_eq_true rfl) rfl rfl ?_
  refine x_aload_n (M := mX0_remember) (pc := 0) dX0_remember_0 rfl ?_
  refine x_get (M := mX0_remember) (pc := 1) kcX0 1 rfl q369 dX0_remember_1 (by first | assumption | exact xu_s _ _ _ | exact (xu_n (by first | assumption | exact Ne.symm (by assumption) | exact xu_fresh (by assumption) (by assumption) | exact (xu_fresh (by assumption) (by assumption)).symm)).trans (by first | assumption | exact xu_s _ _ _ | exact (xu_n (by first | assumption | exact Ne.symm (by assumption) | exact xu_fresh (by assumption) (by assumption) | exact (xu_fresh (by assumption) (by assumption)).symm)).trans (by first | assumption | exact xu_s _ _ _ | exact (xu_n (by first | assumption | exact Ne.symm (by assumption) | exact xu_fresh (by assumption) (by assumption) | exact (xu_fresh (by assumption) (by assumption)).symm)).trans (by first | assumption | exact xu_s _ _ _)))) rfl ?_
  refine x_V0 (M := mX0_remember) (pc := 4) (M' := mJ3_size) q1057 kVJ3_size dX0_remember_4 (j_dqSize hh dq arr hd (d - 1) ds (by omega) hD) (hD.is) (fun v_ h hq_ => ?_)
  obtain ⟨hv_, rfl⟩ := hq_; cases hv_
  refine x_iconst (M := mX0_remember) (pc := 7) (v := nI 5) dX0_remember_7 (by decide) ?_
  first | with_reducible refine x_icmp_neN (M := mX0_remember) (pc := 8) 19 dX0_remember_8 (by decide) (by omega) (by omega) (fun c8 => ?_) (fun c8 => ?_) | refine x_icmp_ne (M := mX0_remember) (pc := 8) 19 dX0_remember_8 (by decide) (fun c8 => ?_) (fun c8 => ?_)
  rotate_left
  rotate_left
  · rw [if_neg c8]
    refine x_aload_n (M := mX0_remember) (pc := 19) dX0_remember_19 rfl ?_
    refine x_get (M := mX0_remember) (pc := 20) kcX0 1 rfl q369 dX0_remember_20 (by first | assumption | exact xu_s _ _ _ | exact (xu_n (by first | assumption | exact Ne.symm (by assumption) | exact xu_fresh (by assumption) (by assumption) | exact (xu_fresh (by assumption) (by assumption)).symm)).trans (by first | assumption | exact xu_s _ _ _ | exact (xu_n (by first | assumption | exact Ne.symm (by assumption) | exact xu_fresh (by assumption) (by assumption) | exact (xu_fresh (by assumption) (by assumption)).symm)).trans (by first | assumption | exact xu_s _ _ _ | exact (xu_n (by first | assumption | exact Ne.symm (by assumption) | exact xu_fresh (by assumption) (by assumption) | exact (xu_fresh (by assumption) (by assumption)).symm)).trans (by first | assumption | exact xu_s _ _ _)))) rfl ?_
    refine x_aload_n (M := mX0_remember) (pc := 23) dX0_remember_23 rfl ?_
    refine x_V1 (M := mX0_remember) (pc := 24) (M' := mJ3_addLast) q1062 kVJ3_addLast dX0_remember_24 (j_addLast _ dq arr hd (d - 1) v ds (by omega) hD ⟨_, xIs.of kcX1 hvd, Or.inr q3333⟩ (by omega)) (hD.is) (fun v_ h2 hq_ => ?_)
    obtain ⟨hv_, w1, w2⟩ := hq_; cases hv_
    refine x_vret (M := mX0_remember) (pc := 27) dX0_remember_27 rfl (by first | exact Nat.le_of_ble_eq_true rfl | omega) (by first | exact Nat.le_of_ble_eq_true rfl | omega) ?_
    exact ⟨rfl, hd, w1, w2⟩
  · rw [if_pos c8]
    cases ds with
    | nil => cases c8
    | cons y ds =>
      have hal : ∃ t n f, h arr = some (.inl (t, n, .inr (.inr (.inr (.inr f))))) := by obtain ⟨-, -, -, -, f, q2, -⟩ := hD; exact ⟨_, _, _, q2⟩
      obtain ⟨t, n, f, hal⟩ := hal
      have nca : cb ≠ arr := fun z => by rw [z, hal] at hcb; cases hcb
      have nvd : v ≠ dq := fun z => by have := hD.1; rw [← z, hvd] at this; cases this
      have nva : v ≠ arr := fun z => by rw [z, hal] at hvd; cases hvd
      refine x_aload_n (M := mX0_remember) (pc := 11) dX0_remember_11 rfl ?_
      refine x_get (M := mX0_remember) (pc := 12) kcX0 1 rfl q369 dX0_remember_12 (by first | assumption | exact xu_s _ _ _ | exact (xu_n (by first | assumption | exact Ne.symm (by assumption) | exact xu_fresh (by assumption) (by assumption) | exact (xu_fresh (by assumption) (by assumption)).symm)).trans (by first | assumption | exact xu_s _ _ _ | exact (xu_n (by first | assumption | exact Ne.symm (by assumption) | exact xu_fresh (by assumption) (by assumption) | exact (xu_fresh (by assumption) (by assumption)).symm)).trans (by first | assumption | exact xu_s _ _ _ | exact (xu_n (by first | assumption | exact Ne.symm (by assumption) | exact xu_fresh (by assumption) (by assumption) | exact (xu_fresh (by assumption) (by assumption)).symm)).trans (by first | assumption | exact xu_s _ _ _)))) rfl ?_
      refine x_V0 (M := mX0_remember) (pc := 15) (M' := mJ3_removeFirst) q1058 kVJ3_removeFirst dX0_remember_15 (j_removeFirst _ dq arr hd (d - 1) y ds (by omega) hD) (hD.is) (fun v_ h2 hq_ => ?_)
      obtain ⟨hv_, w1, w2⟩ := hq_; cases hv_
      have hcb2 := w2 _ _ ncd nca hcb
      have hv2 := w2 _ _ nvd nva hvd
      refine x_pop (M := mX0_remember) (pc := 18) dX0_remember_18 ?_
      refine x_aload_n (M := mX0_remember) (pc := 19) dX0_remember_19 rfl ?_
      refine x_get (M := mX0_remember) (pc := 20) kcX0 1 rfl q369 dX0_remember_20 (by first | assumption | exact xu_s _ _ _ | exact (xu_n (by first | assumption | exact Ne.symm (by assumption) | exact xu_fresh (by assumption) (by assumption) | exact (xu_fresh (by assumption) (by assumption)).symm)).trans (by first | assumption | exact xu_s _ _ _ | exact (xu_n (by first | assumption | exact Ne.symm (by assumption) | exact xu_fresh (by assumption) (by assumption) | exact (xu_fresh (by assumption) (by assumption)).symm)).trans (by first | assumption | exact xu_s _ _ _ | exact (xu_n (by first | assumption | exact Ne.symm (by assumption) | exact xu_fresh (by assumption) (by assumption) | exact (xu_fresh (by assumption) (by assumption)).symm)).trans (by first | assumption | exact xu_s _ _ _)))) rfl ?_
      refine x_aload_n (M := mX0_remember) (pc := 23) dX0_remember_23 rfl ?_
      refine x_V1 (M := mX0_remember) (pc := 24) (M' := mJ3_addLast) q1062 kVJ3_addLast dX0_remember_24 (j_addLast h2 dq arr _ (d - 1) v ds (by omega) w1 ⟨_, xIs.of kcX1 hv2, Or.inr q3333⟩ (by simp only [List.length_cons] at hl; omega)) (w1.is) (fun v_ h3 hq_ => ?_)
      obtain ⟨hv_, w3, w4⟩ := hq_; cases hv_
      refine x_vret (M := mX0_remember) (pc := 27) dX0_remember_27 rfl (by first | exact Nat.le_of_ble_eq_true rfl | omega) (by first | exact Nat.le_of_ble_eq_true rfl | omega) ?_
      exact ⟨rfl, _, w3, fun a e n1 n2 ha => w4 a e n1 n2 (w2 a e n1 n2 ha)⟩
end STATE

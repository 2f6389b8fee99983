/-! java.util.TreeMap: iteration; java.util.TreeSet -/
section JDKTM5
set_option maxRecDepth 100000
variable {g : xG} {l : Launch} {h h0 : xH}
theorem j_acInit (h : xH) (a d : Nat) (hd : 1 ≤ d) : Ct g l mJ0_init d 0 0 [.ref a] h (fun o h' => o = .inl none ∧ h' = h) := by
  refine Ct.of [some (.ref a)] (by decide +kernel) rfl (Nat.le_of_ble_eq_true rfl) rfl rfl ?_
  refine x_aload_n (M := mJ0_init) (pc := 0) dJ0_init_0 rfl ?_
  refine x_objInit (M := mJ0_init) (pc := 1) q186 dJ0_init_1 (by first | exact Nat.le_of_ble_eq_true rfl | omega) (by first | exact Nat.le_of_ble_eq_true rfl | (simp [xcat_rf, Value.category])) ?_
  refine x_vret (M := mJ0_init) (pc := 4) dJ0_init_4 rfl (by first | exact Nat.le_of_ble_eq_true rfl | omega) (by first | exact Nat.le_of_ble_eq_true rfl | omega) ?_
  exact ⟨rfl, rfl⟩
theorem j_asInit (h : xH) (a d : Nat) (hd : 2 ≤ d) : Ct g l mJ18_init d 0 0 [.ref a] h (fun o h' => o = .inl none ∧ h' = h) := by
  refine Ct.of [some (.ref a)] (by decide +kernel) rfl (Nat.le_of_ble_eq_true rfl) rfl rfl ?_
  refine x_aload_n (M := mJ18_init) (pc := 0) dJ18_init_0 rfl ?_
  refine x_I0 (M := mJ18_init) (pc := 1) (M' := mJ0_init) q924 kIJ0_init dJ18_init_1 (j_acInit h a (d - 1) (by omega)) (fun v_ h hq_ => ?_)
  obtain ⟨hv_, rfl⟩ := hq_; cases hv_
  refine x_vret (M := mJ18_init) (pc := 4) dJ18_init_4 rfl (by first | exact Nat.le_of_ble_eq_true rfl | omega) (by first | exact Nat.le_of_ble_eq_true rfl | omega) ?_
  exact ⟨rfl, rfl⟩
theorem j_amInit (h : xH) (a d : Nat) (hd : 1 ≤ d) : Ct g l mJ20_init d 0 0 [.ref a] h (fun o h' => o = .inl none ∧ h' = h) := by
  refine Ct.of [some (.ref a)] (by decide +kernel) rfl (Nat.le_of_ble_eq_true rfl) rfl rfl ?_
  refine x_aload_n (M := mJ20_init) (pc := 0) dJ20_init_0 rfl ?_
  refine x_objInit (M := mJ20_init) (pc := 1) q2085 dJ20_init_1 (by first | exact Nat.le_of_ble_eq_true rfl | omega) (by first | exact Nat.le_of_ble_eq_true rfl | (simp [xcat_rf, Value.category])) ?_
  refine x_vret (M := mJ20_init) (pc := 4) dJ20_init_4 rfl (by first | exact Nat.le_of_ble_eq_true rfl | omega) (by first | exact Nat.le_of_ble_eq_true rfl | omega) ?_
  exact ⟨rfl, rfl⟩
theorem TM.emp {κ : Bool} {tm : Nat} {nk : Option Nat} {sz md : Int32} (K : Nat → Nat) (V : Nat → Option Nat) (rk : Nat → Int) (htm : h tm = some (tobj none sz md nk)) : TM κ g h tm nk md [] K V rk :=
  ⟨sz, tl, fun _ => none, fun _ => none, fun _ => none, fun _ => true, rfl, trivial, ⟨htm, (fun n hn => by cases hn), (fun e => by cases e)⟩, (fun r hr => by cases hr), List.Pairwise.nil, (fun n hn => by cases hn)⟩
theorem j_tmInit (h : xH) (tm d : Nat) (hd : 2 ≤ d) (htm : h tm = some (.inr (35, [.null, .null, .null, .null, .int (nI 0), .int (nI 0), .null, .null, .null]))) : Ct g l mJ21_init d 0 0 [.ref tm] h (fun o h' => o = .inl none ∧ h' = h) := by
  refine Ct.of [some (.ref tm)] (by decide +kernel) rfl (Nat.le_of_ble_eq_true rfl) rfl rfl ?_
  refine x_aload_n (M := mJ21_init) (pc := 0) dJ21_init_0 rfl ?_
  refine x_I0 (M := mJ21_init) (pc := 1) (M' := mJ20_init) q2082 kIJ20_init dJ21_init_1 (j_amInit h tm (d - 1) (by omega)) (fun v_ h hq_ => ?_)
  obtain ⟨hv_, rfl⟩ := hq_; cases hv_
  refine x_aload_n (M := mJ21_init) (pc := 4) dJ21_init_4 rfl ?_
  refine x_iconst (M := mJ21_init) (pc := 5) (v := nI 0) dJ21_init_5 (by decide) ?_
  first | refine x_put4' (M := mJ21_init) (pc := 6) kcJ21 q2088 dJ21_init_6 ?_ | refine x_put4 (M := mJ21_init) (pc := 6) kcJ21 q2088 dJ21_init_6 (by first | assumption | exact xu_s _ _ _ | exact (xu_n (by first | assumption | exact Ne.symm (by assumption) | exact xu_fresh (by assumption) (by assumption) | exact (xu_fresh (by assumption) (by assumption)).symm)).trans (by first | assumption | exact xu_s _ _ _ | exact (xu_n (by first | assumption | exact Ne.symm (by assumption) | exact xu_fresh (by assumption) (by assumption) | exact (xu_fresh (by assumption) (by assumption)).symm)).trans (by first | assumption | exact xu_s _ _ _ | exact (xu_n (by first | assumption | exact Ne.symm (by assumption) | exact xu_fresh (by assumption) (by assumption) | exact (xu_fresh (by assumption) (by assumption)).symm)).trans (by first | assumption | exact xu_s _ _ _)))) ?_
  refine x_aload_n (M := mJ21_init) (pc := 9) dJ21_init_9 rfl ?_
  refine x_iconst (M := mJ21_init) (pc := 10) (v := nI 0) dJ21_init_10 (by decide) ?_
  first | refine x_put5' (M := mJ21_init) (pc := 11) kcJ21 q2090 dJ21_init_11 ?_ | refine x_put5 (M := mJ21_init) (pc := 11) kcJ21 q2090 dJ21_init_11 (by first | assumption | exact xu_s _ _ _ | exact (xu_n (by first | assumption | exact Ne.symm (by assumption) | exact xu_fresh (by assumption) (by assumption) | exact (xu_fresh (by assumption) (by assumption)).symm)).trans (by first | assumption | exact xu_s _ _ _ | exact (xu_n (by first | assumption | exact Ne.symm (by assumption) | exact xu_fresh (by assumption) (by assumption) | exact (xu_fresh (by assumption) (by assumption)).symm)).trans (by first | assumption | exact xu_s _ _ _ | exact (xu_n (by first | assumption | exact Ne.symm (by assumption) | exact xu_fresh (by assumption) (by assumption) | exact (xu_fresh (by assumption) (by assumption)).symm)).trans (by first | assumption | exact xu_s _ _ _)))) ?_
  refine x_aload_n (M := mJ21_init) (pc := 14) dJ21_init_14 rfl ?_
  refine x_null (M := mJ21_init) (pc := 15) dJ21_init_15 ?_
  first | refine x_putF2' (M := mJ21_init) (pc := 16) kcJ21 q2086 dJ21_init_16 ?_ | refine x_putF2 (M := mJ21_init) (pc := 16) kcJ21 q2086 dJ21_init_16 (by first | assumption | exact xu_s _ _ _ | exact (xu_n (by first | assumption | exact Ne.symm (by assumption) | exact xu_fresh (by assumption) (by assumption) | exact (xu_fresh (by assumption) (by assumption)).symm)).trans (by first | assumption | exact xu_s _ _ _ | exact (xu_n (by first | assumption | exact Ne.symm (by assumption) | exact xu_fresh (by assumption) (by assumption) | exact (xu_fresh (by assumption) (by assumption)).symm)).trans (by first | assumption | exact xu_s _ _ _ | exact (xu_n (by first | assumption | exact Ne.symm (by assumption) | exact xu_fresh (by assumption) (by assumption) | exact (xu_fresh (by assumption) (by assumption)).symm)).trans (by first | assumption | exact xu_s _ _ _)))) ?_
  refine x_vret (M := mJ21_init) (pc := 19) dJ21_init_19 rfl (by first | exact Nat.le_of_ble_eq_true rfl | omega) (by first | exact Nat.le_of_ble_eq_true rfl | omega) ?_
  exact ⟨rfl, xu_id htm⟩
/-- the least entry below t -/
theorem j_gfeL (h : xH) (tm d : Nat) (o : va_E) (ns : List Nat) (K : Nat → Nat) (V : Nat → Option Nat) (L R P : Nat → Option Nat) (C : Nat → Bool) (hT : TN h tm o ns K V L R P C) (Q : xO → xH → Prop) : ∀ (t : Tre) (p : Option Nat), tSh L R P t p → (∀ n ∈ tIo t, n ∈ ns) → t ≠ tl → Q (.inl (some (va_rf (tIo t).head?))) h → X g l mJ21_getFirstEntry d 0 0 Q 9 [some (.ref tm), some (va_rf (tRt t))] [] h 0 0 := by
  intro t
  induction t with
  | leaf => intro p _ _ hne; exact absurd rfl hne
  | inner s n u0 tl' tr ihl ihr =>
    intro p hS hsub _ hQ
    obtain ⟨h1, h2, h3, h4, h5⟩ := hS
    have hn : n ∈ ns := hsub n (by simp [tIo])
    show X g l mJ21_getFirstEntry d 0 0 Q 9 [some (.ref tm), some (.ref n)] [] h 0 0
    refine x_aload_n (M := mJ21_getFirstEntry) (pc := 9) dJ21_getFirstEntry_9 rfl ?_
    refine x_tg2 (M := mJ21_getFirstEntry) (pc := 10) hT hn (by rw [h2]) q2550 dJ21_getFirstEntry_10 ?_
    cases tl' with
    | leaf =>
      refine x_ifnullN (M := mJ21_getFirstEntry) (pc := 13) 24 dJ21_getFirstEntry_13 (by decide) ?_
      refine x_aload_n (M := mJ21_getFirstEntry) (pc := 24) dJ21_getFirstEntry_24 rfl ?_
      refine x_aret (M := mJ21_getFirstEntry) (pc := 25) dJ21_getFirstEntry_25 rfl (by first | exact Or.inl ⟨_, rfl⟩ | exact Or.inr ⟨_, rfl⟩) (by first | exact Nat.le_of_ble_eq_true rfl | omega) (by first | exact Nat.le_of_ble_eq_true rfl | omega) ?_
      exact hQ
    | inner s' n' u' tl2 tr2 =>
      refine x_ifnullR (M := mJ21_getFirstEntry) (pc := 13) dJ21_getFirstEntry_13 ?_
      refine x_aload_n (M := mJ21_getFirstEntry) (pc := 16) dJ21_getFirstEntry_16 rfl ?_
      refine x_tg2 (M := mJ21_getFirstEntry) (pc := 17) hT hn (by rw [h2]) q2550 dJ21_getFirstEntry_17 ?_
      refine x_astore1 (M := mJ21_getFirstEntry) (pc := 20) dJ21_getFirstEntry_20 ?_
      refine x_goto (M := mJ21_getFirstEntry) (pc := 21) 9 dJ21_getFirstEntry_21 (by decide) ?_
      refine ihl _ h4 (fun m hm => hsub m (by simp only [tIo, List.mem_append, List.mem_cons] at hm ⊢; grind)) (by simp) ?_
      have e : (tIo (.inner s n u0 (.inner s' n' u' tl2 tr2) tr)).head? = (tIo (.inner s' n' u' tl2 tr2)).head? := by simp [tIo, List.head?_append]
      rw [e] at hQ; exact hQ
theorem j_gfe (h : xH) (tm d : Nat) (κ : Bool) (nk : Option Nat) (md : Int32) (ns : List Nat) (K : Nat → Nat) (V : Nat → Option Nat) (rk : Nat → Int) (hM : TM κ g h tm nk md ns K V rk) : Ct g l mJ21_getFirstEntry d 0 0 [.ref tm] h (fun o h' => o = .inl (some (va_rf ns.head?)) ∧ h' = h) := by
  obtain ⟨sz, T, L, R, P, C, hio, hS, hT, hC, hpw, hK⟩ := hM
  subst hio
  refine Ct.of [some (.ref tm), none] (by decide +kernel) rfl (Nat.le_of_ble_eq_true rfl) rfl rfl ?_
  refine x_aload_n (M := mJ21_getFirstEntry) (pc := 0) dJ21_getFirstEntry_0 rfl ?_
  refine x_tgr (M := mJ21_getFirstEntry) (pc := 1) hT rfl q2087 dJ21_getFirstEntry_1 ?_
  refine x_astore1 (M := mJ21_getFirstEntry) (pc := 4) dJ21_getFirstEntry_4 ?_
  cases T with
  | leaf =>
    show X g l mJ21_getFirstEntry d 0 0 _ 5 [_, some .null] _ _ _ _
    refine x_aload_n (M := mJ21_getFirstEntry) (pc := 5) dJ21_getFirstEntry_5 rfl ?_
    refine x_ifnullN (M := mJ21_getFirstEntry) (pc := 6) 24 dJ21_getFirstEntry_6 (by decide) ?_
    refine x_aload_n (M := mJ21_getFirstEntry) (pc := 24) dJ21_getFirstEntry_24 rfl ?_
    refine x_aret (M := mJ21_getFirstEntry) (pc := 25) dJ21_getFirstEntry_25 rfl (by first | exact Or.inl ⟨_, rfl⟩ | exact Or.inr ⟨_, rfl⟩) (by first | exact Nat.le_of_ble_eq_true rfl | omega) (by first | exact Nat.le_of_ble_eq_true rfl | omega) ?_
    exact ⟨rfl, rfl⟩
  | inner s n u0 tl' tr =>
    show X g l mJ21_getFirstEntry d 0 0 _ 5 [_, some (.ref n)] _ _ _ _
    refine x_aload_n (M := mJ21_getFirstEntry) (pc := 5) dJ21_getFirstEntry_5 rfl ?_
    refine x_ifnullR (M := mJ21_getFirstEntry) (pc := 6) dJ21_getFirstEntry_6 ?_
    exact j_gfeL h tm d _ _ K V L R P C hT _ (.inner s n u0 tl' tr) none hS (fun n hn => hn) (by simp) ⟨rfl, rfl⟩
/-- where an entry stands -/
theorem tSplit {L R P : Nat → Option Nat} {x : Nat} : ∀ (t : Tre) (c : Cx), cSh L R P c (tRt t) → tSh L R P t (tPar c) → x ∈ tIo t → ∃ c' a b, cIoL c' ++ (tIo a ++ x :: tIo b) ++ cIoR c' = cIoL c ++ tIo t ++ cIoR c ∧ cSh L R P c' (some x) ∧ P x = tPar c' ∧ L x = tRt a ∧ R x = tRt b ∧ tSh L R P a (some x) ∧ tSh L R P b (some x)
  | .leaf, c, _, _, hx => by simp [tIo] at hx
  | .inner s n u tl' tr, c, hc, ⟨h1, h2, h3, h4, h5⟩, hx => by
    simp only [tIo, List.mem_append, List.mem_cons] at hx
    rcases hx with hx | rfl | hx
    · obtain ⟨c', a, b, w1, w2⟩ := tSplit tl' ((false, n, tr) :: c) ⟨h1, by simpa using ⟨h2, h3⟩, h5, hc⟩ h4 hx
      exact ⟨c', a, b, w1.trans (by simp [cIoL, cIoR, tIo]), w2⟩
    · exact ⟨c, tl', tr, by simp [tIo], hc, h1, h2, h3, h4, h5⟩
    · obtain ⟨c', a, b, w1, w2⟩ := tSplit tr ((true, n, tl') :: c) ⟨h1, by simpa using ⟨h3, h2⟩, h4, hc⟩ h5 hx
      exact ⟨c', a, b, w1.trans (by simp [cIoL, cIoR, tIo]), w2⟩
theorem j_sucD (h : xH) (tm d : Nat) (o : va_E) (ns : List Nat) (K : Nat → Nat) (V : Nat → Option Nat) (L R P : Nat → Option Nat) (C : Nat → Bool) (hT : TN h tm o ns K V L R P C) (Q : xO → xH → Prop) (a0 a2 : Option Value) (ha0 : ∀ w, a0 = some w → w.category = 1) : ∀ (t : Tre) (p : Option Nat), tSh L R P t p → (∀ n ∈ tIo t, n ∈ ns) → t ≠ tl → Q (.inl (some (va_rf (tIo t).head?))) h → X g l mJ21_successor d 0 0 Q 18 [a0, some (va_rf (tRt t)), a2] [] h 0 0 := by
  intro t
  induction t with
  | leaf => intro p _ _ hne; exact absurd rfl hne
  | inner s n u0 tl' tr ihl ihr =>
    intro p hS hsub _ hQ
    obtain ⟨h1, h2, h3, h4, h5⟩ := hS
    have hn : n ∈ ns := hsub n (by simp [tIo])
    show X g l mJ21_successor d 0 0 Q 18 [a0, some (.ref n), a2] [] h 0 0
    refine x_aload_n (M := mJ21_successor) (pc := 18) dJ21_successor_18 rfl ?_
    refine x_tg2 (M := mJ21_successor) (pc := 19) hT hn (by rw [h2]) q2550 dJ21_successor_19 ?_
    cases tl' with
    | leaf =>
      refine x_ifnullN (M := mJ21_successor) (pc := 22) 33 dJ21_successor_22 (by decide) ?_
      refine x_aload_n (M := mJ21_successor) (pc := 33) dJ21_successor_33 rfl ?_
      refine x_aret (M := mJ21_successor) (pc := 34) dJ21_successor_34 rfl (by first | exact Or.inl ⟨_, rfl⟩ | exact Or.inr ⟨_, rfl⟩) (by first | exact Nat.le_of_ble_eq_true rfl | omega) (by first | exact Nat.le_of_ble_eq_true rfl | omega) ?_
      exact hQ
    | inner s' n' u' tl2 tr2 =>
      refine x_ifnullR (M := mJ21_successor) (pc := 22) dJ21_successor_22 ?_
      refine x_aload_n (M := mJ21_successor) (pc := 25) dJ21_successor_25 rfl ?_
      refine x_tg2 (M := mJ21_successor) (pc := 26) hT hn (by rw [h2]) q2550 dJ21_successor_26 ?_
      refine x_astore1 (M := mJ21_successor) (pc := 29) dJ21_successor_29 ?_ (hp := ha0)
      refine x_goto (M := mJ21_successor) (pc := 30) 18 dJ21_successor_30 (by decide) ?_
      refine ihl _ h4 (fun m hm => hsub m (by simp only [tIo, List.mem_append, List.mem_cons] at hm ⊢; grind)) (by simp) ?_
      have e : (tIo (.inner s n u0 (.inner s' n' u' tl2 tr2) tr)).head? = (tIo (.inner s' n' u' tl2 tr2)).head? := by simp [tIo, List.head?_append]
      rw [e] at hQ; exact hQ
theorem j_sucU (h : xH) (tm d x : Nat) (o : va_E) (ns : List Nat) (K : Nat → Nat) (V : Nat → Option Nat) (L R P : Nat → Option Nat) (C : Nat → Bool) (hT : TN h tm o ns K V L R P C) (Q : xO → xH → Prop) : ∀ (c : Cx) (ch : Nat), cSh L R P c (some ch) → (∀ n, n ∈ cIoL c ∨ n ∈ cIoR c → n ∈ ns) → ch ∉ cIoL c → ch ∉ cIoR c → (cIoL c ++ cIoR c).Nodup → Q (.inl (some (va_rf (cIoR c).head?))) h → X g l mJ21_successor d 0 0 Q 42 [some (.ref x), some (va_rf (tPar c)), some (.ref ch)] [] h 0 0 := by
  intro c
  induction c with
  | nil =>
    intro ch _ _ _ _ _ hQ
    show X g l mJ21_successor d 0 0 Q 42 [some (.ref x), some .null, some (.ref ch)] [] h 0 0
    refine x_aload_n (M := mJ21_successor) (pc := 42) dJ21_successor_42 rfl ?_
    refine x_ifnullN (M := mJ21_successor) (pc := 43) 64 dJ21_successor_43 (by decide) ?_
    refine x_aload_n (M := mJ21_successor) (pc := 64) dJ21_successor_64 rfl ?_
    refine x_aret (M := mJ21_successor) (pc := 65) dJ21_successor_65 rfl (by first | exact Or.inl ⟨_, rfl⟩ | exact Or.inr ⟨_, rfl⟩) (by first | exact Nat.le_of_ble_eq_true rfl | omega) (by first | exact Nat.le_of_ble_eq_true rfl | omega) ?_
    exact hQ
  | cons f c ih =>
    obtain ⟨b, p, s⟩ := f
    intro ch hcS hsub n1 n2 nd hQ
    obtain ⟨w1, w2, w3, w4⟩ := hcS
    have hp : p ∈ ns := hsub p (by cases b <;> simp [cIoL, cIoR])
    show X g l mJ21_successor d 0 0 Q 42 [some (.ref x), some (.ref p), some (.ref ch)] [] h 0 0
    refine x_aload_n (M := mJ21_successor) (pc := 42) dJ21_successor_42 rfl ?_
    refine x_ifnullR (M := mJ21_successor) (pc := 43) dJ21_successor_43 ?_
    refine x_aload_n (M := mJ21_successor) (pc := 46) dJ21_successor_46 rfl ?_
    refine x_aload_n (M := mJ21_successor) (pc := 47) dJ21_successor_47 rfl ?_
    refine x_tg3 (M := mJ21_successor) (pc := 48) hT hp rfl q2551 dJ21_successor_48 ?_
    refine x_acmp_ne (M := mJ21_successor) (pc := 51) (some ch) (R p) 64 dJ21_successor_51 (by decide) rfl rfl (fun z => ?_) (fun z => ?_)
    · cases b with
      | false =>
        refine x_aload_n (M := mJ21_successor) (pc := 64) dJ21_successor_64 rfl ?_
        refine x_aret (M := mJ21_successor) (pc := 65) dJ21_successor_65 rfl (by first | exact Or.inl ⟨_, rfl⟩ | exact Or.inr ⟨_, rfl⟩) (by first | exact Nat.le_of_ble_eq_true rfl | omega) (by first | exact Nat.le_of_ble_eq_true rfl | omega) ?_
        exact hQ
      | true => exact absurd (by simp at w2; exact w2.1.symm) z
    · cases b with
      | false =>
        simp at w2
        rw [w2.2] at z
        exact absurd (by simp [cIoR, tRt_mem z.symm]) n2
      | true =>
        refine x_aload_n (M := mJ21_successor) (pc := 54) dJ21_successor_54 rfl ?_
        refine x_astore2 (M := mJ21_successor) (pc := 55) dJ21_successor_55 ?_
        refine x_aload_n (M := mJ21_successor) (pc := 56) dJ21_successor_56 rfl ?_
        refine x_tg4 (M := mJ21_successor) (pc := 57) hT hp (by rw [w1]) q2553 dJ21_successor_57 ?_
        refine x_astore1 (M := mJ21_successor) (pc := 60) dJ21_successor_60 ?_
        refine x_goto (M := mJ21_successor) (pc := 61) 42 dJ21_successor_61 (by decide) ?_
        simp only [cIoL, cIoR] at nd hQ hsub
        refine ih p w4 (fun n hn => hsub n (by simp; grind)) (by simp at nd; grind) (by simp at nd; grind) (by simp at nd ⊢; grind) hQ
theorem nd_split {x : Nat} {b e : List Nat} : ∀ (a c : List Nat), a ++ x :: b = c ++ x :: e → (a ++ x :: b).Nodup → a = c ∧ b = e
  | [], [], h, _ => by simp at h; exact ⟨rfl, h⟩
  | [], y :: c, h, nd => by
    simp at h nd
    obtain ⟨rfl, rfl⟩ := h
    simp at nd
  | y :: a, [], h, nd => by
    simp at h nd
    obtain ⟨rfl, h⟩ := h
    simp at nd
  | y :: a, z :: c, h, nd => by
    simp only [List.cons_append, List.cons.injEq, List.nodup_cons] at h nd
    obtain ⟨q1, q2⟩ := nd_split a c h.2 nd.2
    exact ⟨by rw [h.1, q1], q2⟩
theorem j_succ (h : xH) (tm x d : Nat) (κ : Bool) (nk : Option Nat) (md : Int32) (l1 l2 : List Nat) (K : Nat → Nat) (V : Nat → Option Nat) (rk : Nat → Int) (hM : TM κ g h tm nk md (l1 ++ x :: l2) K V rk) : Ct g l mJ21_successor d 0 0 [.ref x] h (fun o h' => o = .inl (some (va_rf l2.head?)) ∧ h' = h) := by
  have nd := hM.nd
  obtain ⟨sz, T, L, R, P, C, hio, hS, hT, hC, hpw, hK⟩ := hM
  obtain ⟨c, a, b, w1, w2, w3, w4, w5, w6, w7⟩ := tSplit (x := x) T [] trivial hS (by rw [hio]; simp)
  simp only [cIoL, cIoR, List.nil_append, List.append_nil, hio] at w1
  have e2 : tIo b ++ cIoR c = l2 := by
    rw [← w1] at nd
    have w1' : (cIoL c ++ tIo a) ++ x :: (tIo b ++ cIoR c) = l1 ++ x :: l2 := by rw [← w1]; simp
    exact (nd_split _ _ w1' (by simpa using nd)).2
  have hx : x ∈ l1 ++ x :: l2 := by simp
  refine Ct.of [some (.ref x), none, none] (by decide +kernel) rfl (Nat.le_of_ble_eq_true rfl) rfl rfl ?_
  refine x_aload_n (M := mJ21_successor) (pc := 0) dJ21_successor_0 rfl ?_
  refine x_ifnonnullR (M := mJ21_successor) (pc := 1) 6 dJ21_successor_1 (by decide) ?_
  refine x_aload_n (M := mJ21_successor) (pc := 6) dJ21_successor_6 rfl ?_
  refine x_tg3 (M := mJ21_successor) (pc := 7) hT hx (by rw [w5]) q2551 dJ21_successor_7 ?_
  cases b with
  | leaf =>
    refine x_ifnullN (M := mJ21_successor) (pc := 10) 35 dJ21_successor_10 (by decide) ?_
    refine x_aload_n (M := mJ21_successor) (pc := 35) dJ21_successor_35 rfl ?_
    refine x_tg4 (M := mJ21_successor) (pc := 36) hT hx (by rw [w3]) q2553 dJ21_successor_36 ?_
    refine x_astore1 (M := mJ21_successor) (pc := 39) dJ21_successor_39 ?_
    refine x_aload_n (M := mJ21_successor) (pc := 40) dJ21_successor_40 rfl ?_
    refine x_astore2 (M := mJ21_successor) (pc := 41) dJ21_successor_41 ?_
    simp only [tIo, List.nil_append] at e2
    rw [← w1] at nd
    refine j_sucU h tm d x _ _ K V L R P C hT _ c x w2 (fun n hn => by rw [← w1]; simp; grind) (by simp at nd; grind) (by simp at nd; grind) (by simp at nd ⊢; grind) ⟨by rw [e2], rfl⟩
  | inner s n u tl' tr =>
    refine x_ifnullR (M := mJ21_successor) (pc := 10) dJ21_successor_10 ?_
    refine x_aload_n (M := mJ21_successor) (pc := 13) dJ21_successor_13 rfl ?_
    refine x_tg3 (M := mJ21_successor) (pc := 14) hT hx (by rw [w5]) q2551 dJ21_successor_14 ?_
    refine x_astore1 (M := mJ21_successor) (pc := 17) dJ21_successor_17 ?_
    refine j_sucD h tm d _ _ K V L R P C hT _ _ _ (fun w hw => by cases hw; rfl) (.inner s n u tl' tr) _ w7 (fun m hm => by rw [← w1]; simp; grind) (by simp) ⟨by rw [← e2]; simp [tIo, List.head?_append], rfl⟩
end JDKTM5

/-! Booklet.<init> -/
section BKINIT
set_option maxRecDepth 100000
variable {g : xG} {l : Launch} {h h0 h' : xH}
theorem c_isHeld (h : xH) (bk sh jt d : Nat) (hd : 1 ≤ d) (v1 v2 v3 : Value) (P : Nat → Nat) (s : Row) (hW : WF s) (x : Jt) (hx : x.2.2 < 4) (hbk : h bk = some (.inr (8, [.ref sh, v1, v2, v3]))) (hsh : h sh = some (shE P s)) (hj : h jt = some (jtE x)) : Ct g l mX8_isHeld d 0 0 [.ref bk, .ref jt] h (fun o h' => o = .inl (some (.int (bI (jHas (zN s 8) x)))) ∧ h' = h) := by
  have h8 := hW.2.2.1.2
  unfold shE at hsh
  refine Ct.of [some (.ref bk), some (.ref jt)] (by decide +kernel) rfl (Nat.le_of_ble_eq_true rfl) rfl rfl ?_
  refine x_aload_n (M := mX8_isHeld) (pc := 0) dX8_isHeld_0 rfl ?_
  refine x_get (M := mX8_isHeld) (pc := 1) kcX8 0 rfl q1198 dX8_isHeld_1 (by first | assumption | exact xu_s _ _ _ | exact (xu_n (by first | assumption | exact Ne.symm (by assumption) | exact xu_fresh (by assumption) (by assumption) | exact (xu_fresh (by assumption) (by assumption)).symm)).trans (by first | assumption | exact xu_s _ _ _ | exact (xu_n (by first | assumption | exact Ne.symm (by assumption) | exact xu_fresh (by assumption) (by assumption) | exact (xu_fresh (by assumption) (by assumption)).symm)).trans (by first | assumption | exact xu_s _ _ _ | exact (xu_n (by first | assumption | exact Ne.symm (by assumption) | exact xu_fresh (by assumption) (by assumption) | exact (xu_fresh (by assumption) (by assumption)).symm)).trans (by first | assumption | exact xu_s _ _ _)))) rfl ?_
  refine x_getN (M := mX8_isHeld) (pc := 4) kcX2 7 rfl q240 dX8_isHeld_4 (by first | assumption | exact xu_s _ _ _ | exact (xu_n (by first | assumption | exact Ne.symm (by assumption) | exact xu_fresh (by assumption) (by assumption) | exact (xu_fresh (by assumption) (by assumption)).symm)).trans (by first | assumption | exact xu_s _ _ _ | exact (xu_n (by first | assumption | exact Ne.symm (by assumption) | exact xu_fresh (by assumption) (by assumption) | exact (xu_fresh (by assumption) (by assumption)).symm)).trans (by first | assumption | exact xu_s _ _ _ | exact (xu_n (by first | assumption | exact Ne.symm (by assumption) | exact xu_fresh (by assumption) (by assumption) | exact (xu_fresh (by assumption) (by assumption)).symm)).trans (by first | assumption | exact xu_s _ _ _)))) rfl ?_
  refine x_aload_n (M := mX8_isHeld) (pc := 7) dX8_isHeld_7 rfl ?_
  refine x_V0 (M := mX8_isHeld) (pc := 8) (M' := mX9_edge) q1181 kVX9_edge dX8_isHeld_8 (c_jtD h jt (d - 1) x hj) (xIs.of kcX9 hj) (fun v_ h hq_ => ?_)
  obtain ⟨hv_, rfl⟩ := hq_; cases hv_
  refine x_SN2 (M := mX8_isHeld) (pc := 11) (M' := mX0_has) q1185 kSX0_has dX8_isHeld_11 (c_has h (zN s 8) x.2.2 (d - 1) (by omega) (by omega)) (fun v_ h hq_ => ?_)
  obtain ⟨hv_, rfl⟩ := hq_; cases hv_
  first | with_reducible refine x_ifB_ne (M := mX8_isHeld) (pc := 14) 21 dX8_isHeld_14 (by decide) (fun c14 => ?_) (fun c14 => ?_) | with_reducible refine x_if_neN (M := mX8_isHeld) (pc := 14) 21 dX8_isHeld_14 (by decide) (by omega) (fun c14 => ?_) (fun c14 => ?_) | refine x_if_ne (M := mX8_isHeld) (pc := 14) 21 dX8_isHeld_14 (by decide) (fun c14 => ?_) (fun c14 => ?_)
  · refine x_iconst (M := mX8_isHeld) (pc := 21) (v := nI 0) dX8_isHeld_21 (by decide) ?_
    refine x_zret (M := mX8_isHeld) (pc := 22) dX8_isHeld_22 rfl (by first | with_reducible exact xz0 | with_reducible exact xz1 | with_reducible exact bI_01 _ | with_reducible assumption | assumption) (by first | exact Nat.le_of_ble_eq_true rfl | omega) (by first | exact Nat.le_of_ble_eq_true rfl | omega) ?_
    exact ⟨congrArg Sum.inl (by first | exact vB1 (by simp [jHas, *]) | exact vB0 (by simp [jHas, *])), rfl⟩
  · refine x_iconst (M := mX8_isHeld) (pc := 17) (v := nI 1) dX8_isHeld_17 (by decide) ?_
    refine x_goto (M := mX8_isHeld) (pc := 18) 22 dX8_isHeld_18 (by decide) ?_
    refine x_zret (M := mX8_isHeld) (pc := 22) dX8_isHeld_22 rfl (by first | with_reducible exact xz0 | with_reducible exact xz1 | with_reducible exact bI_01 _ | with_reducible assumption | assumption) (by first | exact Nat.le_of_ble_eq_true rfl | omega) (by first | exact Nat.le_of_ble_eq_true rfl | omega) ?_
    exact ⟨congrArg Sum.inl (by first | exact vB1 (by simp [jHas, *]) | exact vB0 (by simp [jHas, *])), rfl⟩
/-- a booklet: its sheet, its leaves, its joints, by openings the edges that shut them -/
def BKL (g : xG) (h : xH) (bk sh : Nat) (s : Row) (ly : Nat → Lay) (La : Nat → Nat) (xs : List Nat) (J : List Jt) : Prop :=
  ∃ lv jl ja cap sb, h bk = some (.inr (8, [.ref sh, .ref lv, .ref jl, .ref sb])) ∧ LA g h lv (zHi s * zWi s) La ∧ (∀ t, t < zHi s * zWi s → h (La t) = some (lyE ((ly t).1 / zWi s) ((ly t).1 % zWi s) (ly t).2)) ∧ JO g h jl ja cap xs J ∧
    aI g h 0 sb (zHi s * zWi s + 1) (fun k => nI (p_shut (zN s 8) (p_se (zN s 7)) (zWi s) ly (zHi s * zWi s) k))
theorem BKL.le {bk sh : Nat} {s : Row} {ly : Nat → Lay} {La : Nat → Nat} {xs : List Nat} {J : List Jt} (hl : xle h h') (hB : BKL g h bk sh s ly La xs J) : BKL g h' bk sh s ly La xs J := by
  obtain ⟨lv, jl, ja, cap, sb, h1, ⟨f, h2, h3⟩, h4, h5, h6⟩ := hB
  exact ⟨lv, jl, ja, cap, sb, hl _ _ h1, ⟨f, hl _ _ h2, h3⟩, fun t ht => hl _ _ (h4 t ht), h5.le hl, h6.keep (hl _) (fun _ _ => rfl)⟩
theorem take_s {J : List Jt} {j : Nat} (hj : j < J.length) : J.take (j + 1) = J.take j ++ [jD J j] := by
  rw [List.take_add_one, jD, List.getD_eq_getElem?_getD, List.getElem?_eq_getElem hj]; rfl
theorem orL_take {J : List Jt} {j : Nat} (f : Jt → Nat) (hj : j < J.length) : orL f (J.take (j + 1)) = orL f (J.take j) ||| f (jD J j) := by
  rw [take_s hj, orL_app]; simp [orL]
/-- the constructor's inner loop -/
theorem j_bki (h2 : xH) (bk sh fo jt d n mc ms uc us j : Nat) (x : Jt) (sb lv jl : Nat) (hn : n ≤ 16) (he : x.2.2 < 4) (hlo : x.2.1 ≤ n) (hbk : h2 bk = some (.inr (8, [.ref sh, .ref lv, .ref jl, .ref sb]))) (hj : h2 jt = some (jtE x)) (V : Nat → Nat) (Q : xO → xH → Prop) (nsb : h2 sb ≠ none) (nb1 : bk ≠ sb) (nb2 : jt ≠ sb) (hd : 1 ≤ d)
    (hE : ∀ h S k, h sb = some (.inl (xdA g 0, n + 1, .inl S)) → (∀ i, i ≤ n → S i = nI (V i ||| (if x.1 < i ∧ i ≤ x.2.1 then 2 ^ x.2.2 else 0))) → xle1 sb h2 h → X g l mX8_init d mc ms Q 139 [some (.ref bk), some (.ref sh), some (.ref fo), some (.int (nI j)), some (.ref jt), some k] [] h uc us) (hc1 : uc ≤ mc) (hc2 : us ≤ ms) :
    ∀ m k, x.2.1 + 1 - k ≤ m → x.1 < k → ∀ h S, h sb = some (.inl (xdA g 0, n + 1, .inl S)) → (∀ i, i ≤ n → S i = nI (V i ||| (if x.1 < i ∧ i ≤ x.2.1 ∧ i < k then 2 ^ x.2.2 else 0))) → xle1 sb h2 h → k ≤ x.2.1 + 1 ∨ x.2.1 ≤ x.1 → k ≤ 40 → X g l mX8_init d mc ms Q 106 [some (.ref bk), some (.ref sh), some (.ref fo), some (.int (nI j)), some (.ref jt), some (.int (nI k))] [] h uc us := by
  intro m
  induction m with
  | zero =>
    intro k hm hk h S hS hv hle hkl hk40
    have hj1 := hle _ _ nb2 hj
    refine x_iload (M := mX8_init) (pc := 106) dX8_init_106 rfl ?_
    refine x_aload (M := mX8_init) (pc := 108) dX8_init_108 rfl ?_
    refine x_V0 (M := mX8_init) (pc := 110) (M' := mX9_lower) q1194 kVX9_lower dX8_init_110 (c_jtL h jt (d - 1) _ hj1) (xIs.of kcX9 hj1) (fun v_ h hq_ => ?_)
    obtain ⟨hv_, rfl⟩ := hq_; cases hv_
    first | with_reducible refine x_icmp_gtN (M := mX8_init) (pc := 113) 139 dX8_init_113 (by decide) (by omega) (by omega) (fun c113 => ?_) (fun c113 => ?_) | refine x_icmp_gt (M := mX8_init) (pc := 113) 139 dX8_init_113 (by decide) (fun c113 => ?_) (fun c113 => ?_)
    rotate_left
    omega
    refine hE h S _ hS (fun i hi => ?_) hle
    rw [hv i hi]
    by_cases z : x.1 < i ∧ i ≤ x.2.1
    · rw [if_pos z, if_pos (by omega)]
    · rw [if_neg z, if_neg (by omega)]
  | succ m ih =>
    intro k hm hk h S hS hv hle hkl hk40
    have hj1 := hle _ _ nb2 hj
    have hbk1 := hle _ _ nb1 hbk
    refine x_iload (M := mX8_init) (pc := 106) dX8_init_106 rfl ?_
    refine x_aload (M := mX8_init) (pc := 108) dX8_init_108 rfl ?_
    refine x_V0 (M := mX8_init) (pc := 110) (M' := mX9_lower) q1194 kVX9_lower dX8_init_110 (c_jtL h jt (d - 1) _ hj1) (xIs.of kcX9 hj1) (fun v_ h hq_ => ?_)
    obtain ⟨hv_, rfl⟩ := hq_; cases hv_
    first | with_reducible refine x_icmp_gtN (M := mX8_init) (pc := 113) 139 dX8_init_113 (by decide) (by omega) (by omega) (fun c113 => ?_) (fun c113 => ?_) | refine x_icmp_gt (M := mX8_init) (pc := 113) 139 dX8_init_113 (by decide) (fun c113 => ?_) (fun c113 => ?_)
    rotate_left
    rotate_left
    · refine hE h S _ hS (fun i hi => ?_) hle
      rw [hv i hi]
      by_cases z : x.1 < i ∧ i ≤ x.2.1
      · rw [if_pos z, if_pos (by omega)]
      · rw [if_neg z, if_neg (by omega)]
    · have hkl' : k ≤ x.2.1 := c113
      have e1 : S k = nI (V k) := by rw [hv k (by omega), if_neg (by omega), Nat.or_zero]
      refine x_aload_n (M := mX8_init) (pc := 116) dX8_init_116 rfl ?_
      refine x_get (M := mX8_init) (pc := 117) kcX8 3 rfl q1203 dX8_init_117 (by first | assumption | exact xu_s _ _ _ | exact (xu_n (by first | assumption | exact Ne.symm (by assumption) | exact xu_fresh (by assumption) (by assumption) | exact (xu_fresh (by assumption) (by assumption)).symm)).trans (by first | assumption | exact xu_s _ _ _ | exact (xu_n (by first | assumption | exact Ne.symm (by assumption) | exact xu_fresh (by assumption) (by assumption) | exact (xu_fresh (by assumption) (by assumption)).symm)).trans (by first | assumption | exact xu_s _ _ _ | exact (xu_n (by first | assumption | exact Ne.symm (by assumption) | exact xu_fresh (by assumption) (by assumption) | exact (xu_fresh (by assumption) (by assumption)).symm)).trans (by first | assumption | exact xu_s _ _ _)))) rfl ?_
      refine x_iload (M := mX8_init) (pc := 120) dX8_init_120 rfl ?_
      refine x_dup2 (M := mX8_init) (pc := 122) dX8_init_122 ?_
      refine x_ialdN (M := mX8_init) (pc := 123) _ dX8_init_123 (by first | assumption | exact xu_s _ _ _ | exact (xu_n (by first | assumption | exact Ne.symm (by assumption) | exact xu_fresh (by assumption) (by assumption) | exact (xu_fresh (by assumption) (by assumption)).symm)).trans (by first | assumption | exact xu_s _ _ _ | exact (xu_n (by first | assumption | exact Ne.symm (by assumption) | exact xu_fresh (by assumption) (by assumption) | exact (xu_fresh (by assumption) (by assumption)).symm)).trans (by first | assumption | exact xu_s _ _ _ | exact (xu_n (by first | assumption | exact Ne.symm (by assumption) | exact xu_fresh (by assumption) (by assumption) | exact (xu_fresh (by assumption) (by assumption)).symm)).trans (by first | assumption | exact xu_s _ _ _)))) (by first | rfl | assumption) (by first | assumption | omega) (by first | decide | omega) ?_
      refine x_val (M := mX8_init) (pc := 124) (e1) ?_
      refine x_iconst (M := mX8_init) (pc := 124) (v := 1) dX8_init_124 (by decide) ?_
      refine x_aload (M := mX8_init) (pc := 125) dX8_init_125 rfl ?_
      refine x_V0 (M := mX8_init) (pc := 127) (M' := mX9_edge) q1181 kVX9_edge dX8_init_127 (c_jtD h jt (d - 1) _ hj1) (xIs.of kcX9 hj1) (fun v_ h hq_ => ?_)
      obtain ⟨hv_, rfl⟩ := hq_; cases hv_
      refine x_ishl (M := mX8_init) (pc := 130) dX8_init_130 ?_
      refine x_val (M := mX8_init) (pc := 131) (nI_one _ (by omega)) ?_
      refine x_ior (M := mX8_init) (pc := 131) dX8_init_131 ?_
      refine x_val (M := mX8_init) (pc := 132) (nI_or _ _) ?_
      rotate_left
      refine x_iastN (M := mX8_init) (pc := 132) _ dX8_init_132 (by first | assumption | exact xu_s _ _ _ | exact (xu_n (by first | assumption | exact Ne.symm (by assumption) | exact xu_fresh (by assumption) (by assumption) | exact (xu_fresh (by assumption) (by assumption)).symm)).trans (by first | assumption | exact xu_s _ _ _ | exact (xu_n (by first | assumption | exact Ne.symm (by assumption) | exact xu_fresh (by assumption) (by assumption) | exact (xu_fresh (by assumption) (by assumption)).symm)).trans (by first | assumption | exact xu_s _ _ _ | exact (xu_n (by first | assumption | exact Ne.symm (by assumption) | exact xu_fresh (by assumption) (by assumption) | exact (xu_fresh (by assumption) (by assumption)).symm)).trans (by first | assumption | exact xu_s _ _ _)))) (by first | rfl | assumption) (by first | assumption | omega) (by first | decide | omega) ?_
      first | refine x_iinc5N (M := mX8_init) (pc := 133) (c := 1) dX8_init_133 oI1 ?_ | refine x_iinc5 (M := mX8_init) (pc := 133) (c := 1) dX8_init_133 (by decide) ?_
      refine x_goto (M := mX8_init) (pc := 136) 106 dX8_init_136 (by decide) ?_
      refine ih (k + 1) (by omega) (by omega) _ _ (xu_s _ _ _) (fun i hi => ?_) (fun a e' na ha => (xu_n na).trans (hle a e' na ha)) (by omega) (by omega)
      unfold upd
      split
      · next z => rw [z, if_pos (by omega)]
      · next z =>
        rw [hv i hi]
        by_cases w : x.1 < i ∧ i ≤ x.2.1 ∧ i < k
        · rw [if_pos w, if_pos (by omega)]
        · rw [if_neg w, if_neg (by omega)]
/-- the constructor's loop over the joints -/
theorem j_bkl (h2 : xH) (bk sh fo d mc ms uc us : Nat) (sb lv jl ja cap : Nat) (hd : 3 ≤ d) (P : Nat → Nat) (s : Row) (hW : WF s) (xs : List Nat) (J : List Jt) (hbk : h2 bk = some (.inr (8, [.ref sh, .ref lv, .ref jl, .ref sb]))) (hsh : h2 sh = some (shE P s)) (hJO : JO g h2 jl ja cap xs J) (hJ : ∀ x ∈ J, x.1 < x.2.1 ∧ x.2.1 < zHi s * zWi s ∧ x.2.2 < 4) (hJ32 : J.length ≤ 32) (S0 : Nat → Int32) (hsb : h2 sb = some (.inl (xdA g 0, zHi s * zWi s + 1, .inl S0))) (Q : xO → xH → Prop)
    (hE : ∀ h, aI g h 0 sb (zHi s * zWi s + 1) (fun k => nI (orL (jShut (zN s 8) (p_se (zN s 7)) k) J)) → xle1 sb h2 h → Q (.inl none) h) (hc1 : uc ≤ mc) (hc2 : us ≤ ms) :
    ∀ m j, J.length - j ≤ m → j ≤ J.length → ∀ h S l4 l5, h sb = some (.inl (xdA g 0, zHi s * zWi s + 1, .inl S)) → (∀ i, i ≤ zHi s * zWi s → S i = nI (orL (jShut (zN s 8) (p_se (zN s 7)) i) (J.take j))) → xle1 sb h2 h → X g l mX8_init d mc ms Q 49 [some (.ref bk), some (.ref sh), some (.ref fo), some (.int (nI j)), l4, l5] [] h uc us := by
  have hb := hW.b
  have hlen := hJO.2.1
  have nb1 : bk ≠ sb := fun z => by rw [z, hsb] at hbk; cases hbk
  have nb3 : sh ≠ sb := fun z => by rw [z, hsb] at hsh; cases hsh
  have njt : ∀ k, k < J.length → xs.getD k 0 ≠ sb := fun k hk z => by have := hJO.2.2 k hk; rw [z, hsb] at this; cases this
  have hal : ∀ h, xle1 sb h2 h → AL g h jl ja xs := fun h hle => by
    obtain ⟨mm, f, z⟩ := hJO.1
    refine ⟨mm, cap, f, hle _ _ (fun w => ?_) z.1, z.2.1.imp (fun y => hle _ _ (fun w => ?_) y) id, z.2.2⟩
    · rw [← w, z.1] at hsb; cases hsb
    · rw [← w, y] at hsb; simp at hsb
  intro m
  induction m with
  | zero =>
    intro j hm hj h S l4 l5 hS hv hle
    have : j = J.length := by omega
    subst this
    have hbk1 := hle _ _ nb1 hbk
    refine x_iload_n (M := mX8_init) (pc := 49) dX8_init_49 rfl ?_
    refine x_aload_n (M := mX8_init) (pc := 50) dX8_init_50 rfl ?_
    refine x_get (M := mX8_init) (pc := 51) kcX8 2 rfl q1202 dX8_init_51 (by first | assumption | exact xu_s _ _ _ | exact (xu_n (by first | assumption | exact Ne.symm (by assumption) | exact xu_fresh (by assumption) (by assumption) | exact (xu_fresh (by assumption) (by assumption)).symm)).trans (by first | assumption | exact xu_s _ _ _ | exact (xu_n (by first | assumption | exact Ne.symm (by assumption) | exact xu_fresh (by assumption) (by assumption) | exact (xu_fresh (by assumption) (by assumption)).symm)).trans (by first | assumption | exact xu_s _ _ _ | exact (xu_n (by first | assumption | exact Ne.symm (by assumption) | exact xu_fresh (by assumption) (by assumption) | exact (xu_fresh (by assumption) (by assumption)).symm)).trans (by first | assumption | exact xu_s _ _ _)))) rfl ?_
    refine x_V0 (M := mX8_init) (pc := 54) (M' := mJ2_size) q1162 kVJ2_size dX8_init_54 (j_size h jl ja (d - 1) xs (hal h hle)) ((hal h hle).is) (fun v_ h hq_ => ?_)
    obtain ⟨hv_, rfl⟩ := hq_; cases hv_
    first | with_reducible refine x_icmp_geN (M := mX8_init) (pc := 57) 145 dX8_init_57 (by decide) (by omega) (by omega) (fun c57 => ?_) (fun c57 => ?_) | refine x_icmp_ge (M := mX8_init) (pc := 57) 145 dX8_init_57 (by decide) (fun c57 => ?_) (fun c57 => ?_)
    · refine x_vret (M := mX8_init) (pc := 145) dX8_init_145 rfl (by first | exact Nat.le_of_ble_eq_true rfl | omega) (by first | exact Nat.le_of_ble_eq_true rfl | omega) ?_
      refine hE h ⟨S, hS, fun k hk => ?_⟩ hle; rw [hv k (by omega), List.take_length]
    · omega
  | succ m ih =>
    intro j hm hj h S l4 l5 hS hv hle
    have hbk1 := hle _ _ nb1 hbk
    have hsh1 := hle _ _ nb3 hsh
    by_cases hjl : j < J.length
    · have hjt := hle _ _ (njt j hjl) (hJO.2.2 j hjl)
      obtain ⟨x1, x2, x3⟩ := hJ _ (jD_mem hjl)
      have his := xIs.of (g := g) kcX9 hjt
      have h7 := hW.2.1.2
      have hpse : p_se (zN s 7) ≤ 2 := by unfold p_se; split <;> omega
      -- the joint shuts nothing
      have none_ : jHas (zN s 8) (jD J j) = false ∨ (jD J j).2.2 = p_se (zN s 7) → X g l mX8_init d mc ms Q 139 [some (.ref bk), some (.ref sh), some (.ref fo), some (.int (nI j)), some (.ref (xs.getD j 0)), l5] [] h uc us := fun z => by
        first | refine x_iinc3N (M := mX8_init) (pc := 139) (c := 1) dX8_init_139 oI1 ?_ | refine x_iinc3 (M := mX8_init) (pc := 139) (c := 1) dX8_init_139 (by decide) ?_
        refine x_goto (M := mX8_init) (pc := 142) 49 dX8_init_142 (by decide) ?_
        refine ih (j + 1) (by omega) (by omega) h S _ _ hS (fun i hi => ?_) hle
        rw [hv i hi, orL_take _ hjl, jShut, if_neg, Nat.or_zero]
        rcases z with z | z <;> simp [z]
      refine x_iload_n (M := mX8_init) (pc := 49) dX8_init_49 rfl ?_
      refine x_aload_n (M := mX8_init) (pc := 50) dX8_init_50 rfl ?_
      refine x_get (M := mX8_init) (pc := 51) kcX8 2 rfl q1202 dX8_init_51 (by first | assumption | exact xu_s _ _ _ | exact (xu_n (by first | assumption | exact Ne.symm (by assumption) | exact xu_fresh (by assumption) (by assumption) | exact (xu_fresh (by assumption) (by assumption)).symm)).trans (by first | assumption | exact xu_s _ _ _ | exact (xu_n (by first | assumption | exact Ne.symm (by assumption) | exact xu_fresh (by assumption) (by assumption) | exact (xu_fresh (by assumption) (by assumption)).symm)).trans (by first | assumption | exact xu_s _ _ _ | exact (xu_n (by first | assumption | exact Ne.symm (by assumption) | exact xu_fresh (by assumption) (by assumption) | exact (xu_fresh (by assumption) (by assumption)).symm)).trans (by first | assumption | exact xu_s _ _ _)))) rfl ?_
      refine x_V0 (M := mX8_init) (pc := 54) (M' := mJ2_size) q1162 kVJ2_size dX8_init_54 (j_size h jl ja (d - 1) xs (hal h hle)) ((hal h hle).is) (fun v_ h hq_ => ?_)
      obtain ⟨hv_, rfl⟩ := hq_; cases hv_
      first | with_reducible refine x_icmp_geN (M := mX8_init) (pc := 57) 145 dX8_init_57 (by decide) (by omega) (by omega) (fun c57 => ?_) (fun c57 => ?_) | refine x_icmp_ge (M := mX8_init) (pc := 57) 145 dX8_init_57 (by decide) (fun c57 => ?_) (fun c57 => ?_)
      omega
      refine x_aload_n (M := mX8_init) (pc := 60) dX8_init_60 rfl ?_
      refine x_get (M := mX8_init) (pc := 61) kcX8 2 rfl q1202 dX8_init_61 (by first | assumption | exact xu_s _ _ _ | exact (xu_n (by first | assumption | exact Ne.symm (by assumption) | exact xu_fresh (by assumption) (by assumption) | exact (xu_fresh (by assumption) (by assumption)).symm)).trans (by first | assumption | exact xu_s _ _ _ | exact (xu_n (by first | assumption | exact Ne.symm (by assumption) | exact xu_fresh (by assumption) (by assumption) | exact (xu_fresh (by assumption) (by assumption)).symm)).trans (by first | assumption | exact xu_s _ _ _ | exact (xu_n (by first | assumption | exact Ne.symm (by assumption) | exact xu_fresh (by assumption) (by assumption) | exact (xu_fresh (by assumption) (by assumption)).symm)).trans (by first | assumption | exact xu_s _ _ _)))) rfl ?_
      refine x_iload_n (M := mX8_init) (pc := 64) dX8_init_64 rfl ?_
      refine x_V1 (M := mX8_init) (pc := 65) (M' := mJ2_get) q1163 kVJ2_get dX8_init_65 (j_get h jl ja (d - 1) (by omega) xs (hal h hle) (by omega) j (by omega)) ((hal h hle).is) (fun v_ h hq_ => ?_)
      obtain ⟨hv_, rfl⟩ := hq_; cases hv_
      refine x_cast (M := mX8_init) (pc := 68) q1143 dX8_init_68 (his) (Or.inl rfl) ?_
      refine x_astore4 (M := mX8_init) (pc := 71) dX8_init_71 ?_
      refine x_aload_n (M := mX8_init) (pc := 73) dX8_init_73 rfl ?_
      refine x_aload (M := mX8_init) (pc := 74) dX8_init_74 rfl ?_
      refine x_V1 (M := mX8_init) (pc := 76) (M' := mX8_isHeld) q1177 kVX8_isHeld dX8_init_76 (c_isHeld h bk sh _ (d - 1) (by omega) _ _ _ P s hW _ x3 hbk1 hsh1 hjt) (xIs.of kcX8 (by first | assumption | exact xu_s _ _ _ | exact (xu_n (by first | assumption | exact Ne.symm (by assumption) | exact xu_fresh (by assumption) (by assumption) | exact (xu_fresh (by assumption) (by assumption)).symm)).trans (by first | assumption | exact xu_s _ _ _ | exact (xu_n (by first | assumption | exact Ne.symm (by assumption) | exact xu_fresh (by assumption) (by assumption) | exact (xu_fresh (by assumption) (by assumption)).symm)).trans (by first | assumption | exact xu_s _ _ _ | exact (xu_n (by first | assumption | exact Ne.symm (by assumption) | exact xu_fresh (by assumption) (by assumption) | exact (xu_fresh (by assumption) (by assumption)).symm)).trans (by first | assumption | exact xu_s _ _ _))))) (fun v_ h hq_ => ?_)
      obtain ⟨hv_, rfl⟩ := hq_; cases hv_
      first | with_reducible refine x_ifB_eq (M := mX8_init) (pc := 79) 139 dX8_init_79 (by decide) (fun c79 => ?_) (fun c79 => ?_) | with_reducible refine x_if_eqN (M := mX8_init) (pc := 79) 139 dX8_init_79 (by decide) (by omega) (fun c79 => ?_) (fun c79 => ?_) | refine x_if_eq (M := mX8_init) (pc := 79) 139 dX8_init_79 (by decide) (fun c79 => ?_) (fun c79 => ?_)
      exact none_ (Or.inl c79)
      refine x_aload (M := mX8_init) (pc := 82) dX8_init_82 rfl ?_
      refine x_V0 (M := mX8_init) (pc := 84) (M' := mX9_edge) q1181 kVX9_edge dX8_init_84 (c_jtD h _ (d - 1) _ hjt) (his) (fun v_ h hq_ => ?_)
      obtain ⟨hv_, rfl⟩ := hq_; cases hv_
      refine x_aload_n (M := mX8_init) (pc := 87) dX8_init_87 rfl ?_
      refine x_get (M := mX8_init) (pc := 88) kcX8 0 rfl q1198 dX8_init_88 (by first | assumption | exact xu_s _ _ _ | exact (xu_n (by first | assumption | exact Ne.symm (by assumption) | exact xu_fresh (by assumption) (by assumption) | exact (xu_fresh (by assumption) (by assumption)).symm)).trans (by first | assumption | exact xu_s _ _ _ | exact (xu_n (by first | assumption | exact Ne.symm (by assumption) | exact xu_fresh (by assumption) (by assumption) | exact (xu_fresh (by assumption) (by assumption)).symm)).trans (by first | assumption | exact xu_s _ _ _ | exact (xu_n (by first | assumption | exact Ne.symm (by assumption) | exact xu_fresh (by assumption) (by assumption) | exact (xu_fresh (by assumption) (by assumption)).symm)).trans (by first | assumption | exact xu_s _ _ _)))) rfl ?_
      refine x_V0 (M := mX8_init) (pc := 91) (M' := mX2_spineEdge) q1186 kVX2_spineEdge dX8_init_91 (c_spineEdge h sh (d - 1) P s hW hsh1) (xIs.of kcX2 hsh1) (fun v_ h hq_ => ?_)
      obtain ⟨hv_, rfl⟩ := hq_; cases hv_
      first | with_reducible refine x_icmp_eqN (M := mX8_init) (pc := 94) 139 dX8_init_94 (by decide) (by omega) (by omega) (fun c94 => ?_) (fun c94 => ?_) | refine x_icmp_eq (M := mX8_init) (pc := 94) 139 dX8_init_94 (by decide) (fun c94 => ?_) (fun c94 => ?_)
      exact none_ (Or.inr c94)
      refine x_aload (M := mX8_init) (pc := 97) dX8_init_97 rfl ?_
      refine x_V0 (M := mX8_init) (pc := 99) (M' := mX9_upper) q1190 kVX9_upper dX8_init_99 (c_jtU h _ (d - 1) _ hjt) (his) (fun v_ h hq_ => ?_)
      obtain ⟨hv_, rfl⟩ := hq_; cases hv_
      refine x_iconst (M := mX8_init) (pc := 102) (v := nI 1) dX8_init_102 (by decide) ?_
      first | with_reducible refine x_iaddN (M := mX8_init) (pc := 103) dX8_init_103 ?_ | refine x_iadd (M := mX8_init) (pc := 103) dX8_init_103 ?_
      refine x_istore5 (M := mX8_init) (pc := 104) dX8_init_104 ?_
      rotate_left
      refine j_bki h bk sh fo (xs.getD j 0) d (zHi s * zWi s) mc ms uc us j (jD J j) sb lv jl (by omega) x3 (by omega) hbk1 hjt (fun i => orL (jShut (zN s 8) (p_se (zN s 7)) i) (J.take j)) Q (by rw [hS]; simp) nb1 (njt j hjl) (by omega) (fun h3 S3 k3 z1 z2 z3 => ?_) hc1 hc2 _ ((jD J j).1 + 1) (Nat.le_refl _) (by omega) h S hS (fun i hi => ?_) (fun a e _ z => z) (by omega) (by omega)
      · first | refine x_iinc3N (M := mX8_init) (pc := 139) (c := 1) dX8_init_139 oI1 ?_ | refine x_iinc3 (M := mX8_init) (pc := 139) (c := 1) dX8_init_139 (by decide) ?_
        refine x_goto (M := mX8_init) (pc := 142) 49 dX8_init_142 (by decide) ?_
        refine ih (j + 1) (by omega) (by omega) h3 S3 _ _ z1 (fun i hi => ?_) (fun a e na ha => z3 a e na (hle a e na ha))
        rw [z2 i hi, orL_take _ hjl]
        congr 2
        unfold jShut
        by_cases w : (jD J j).1 < i ∧ i ≤ (jD J j).2.1
        · rw [if_pos w, if_pos (by simp [c79, c94, w])]
        · rw [if_neg w, if_neg (by simp only [Bool.and_eq_true, decide_eq_true_eq]; exact fun y => w y.2)]
      · rw [hv i hi, if_neg (by omega), Nat.or_zero]
    · have : j = J.length := by omega
      subst this
      refine x_iload_n (M := mX8_init) (pc := 49) dX8_init_49 rfl ?_
      refine x_aload_n (M := mX8_init) (pc := 50) dX8_init_50 rfl ?_
      refine x_get (M := mX8_init) (pc := 51) kcX8 2 rfl q1202 dX8_init_51 (by first | assumption | exact xu_s _ _ _ | exact (xu_n (by first | assumption | exact Ne.symm (by assumption) | exact xu_fresh (by assumption) (by assumption) | exact (xu_fresh (by assumption) (by assumption)).symm)).trans (by first | assumption | exact xu_s _ _ _ | exact (xu_n (by first | assumption | exact Ne.symm (by assumption) | exact xu_fresh (by assumption) (by assumption) | exact (xu_fresh (by assumption) (by assumption)).symm)).trans (by first | assumption | exact xu_s _ _ _ | exact (xu_n (by first | assumption | exact Ne.symm (by assumption) | exact xu_fresh (by assumption) (by assumption) | exact (xu_fresh (by assumption) (by assumption)).symm)).trans (by first | assumption | exact xu_s _ _ _)))) rfl ?_
      refine x_V0 (M := mX8_init) (pc := 54) (M' := mJ2_size) q1162 kVJ2_size dX8_init_54 (j_size h jl ja (d - 1) xs (hal h hle)) ((hal h hle).is) (fun v_ h hq_ => ?_)
      obtain ⟨hv_, rfl⟩ := hq_; cases hv_
      first | with_reducible refine x_icmp_geN (M := mX8_init) (pc := 57) 145 dX8_init_57 (by decide) (by omega) (by omega) (fun c57 => ?_) (fun c57 => ?_) | refine x_icmp_ge (M := mX8_init) (pc := 57) 145 dX8_init_57 (by decide) (fun c57 => ?_) (fun c57 => ?_)
      · refine x_vret (M := mX8_init) (pc := 145) dX8_init_145 rfl (by first | exact Nat.le_of_ble_eq_true rfl | omega) (by first | exact Nat.le_of_ble_eq_true rfl | omega) ?_
        refine hE h ⟨S, hS, fun k hk => ?_⟩ hle; rw [hv k (by omega), List.take_length]
      · omega
/-- from join on -/
theorem j_bk43 (he hB : xH) (bk sh fo d : Nat) (sb lv jl : Nat) (hd : 10 ≤ d) (P : Nat → Nat) (s : Row) (hW : WF s) (ly : Nat → Lay) (La : Nat → Nat) (hbk : hB bk = some (.inr (8, [.ref sh, .ref lv, .ref jl, .ref sb]))) (hsh : hB sh = some (shE P s)) (hlv : LA g hB lv (zHi s * zWi s) La) (hly : ∀ t, t < zHi s * zWi s → hB (La t) = some (lyE ((ly t).1 / zWi s) ((ly t).1 % zWi s) (ly t).2)) (hper : ∀ t, t < zHi s * zWi s → (ly t).1 < zHi s * zWi s ∧ lfA ly (zHi s * zWi s) t < zHi s * zWi s ∧ (ly (lfA ly (zHi s * zWi s) t)).1 = t) (hp : (jP (zWi s) ly (zHi s * zWi s) (zHi s * zWi s)).Perm (jL (zHi s) (zWi s) ly (lfA ly (zHi s * zWi s)) (zHi s * zWi s)))
    (hjl : ALC g hB jl (xca g 0 0) 0 []) (hsb : hB sb = some (.inl (xdA g 0, zHi s * zWi s + 1, .inl (fun _ => 0)))) (hle : xle1 bk he hB) (nj : he jl = none) (ns : he sb = none) (Q : xO → xH → Prop) (hE : ∀ h1 xs, BKL g h1 bk sh s ly La xs (jL (zHi s) (zWi s) ly (lfA ly (zHi s * zWi s)) (zHi s * zWi s)) → xle1 bk he h1 → Q (.inl none) h1) :
    X g l mX8_init d 67 (2 * (zHi s * zWi s) + 180) Q 43 [some (.ref bk), some (.ref sh), some (.ref fo), none, none, none] [] hB 2 (4 + zHi s * zWi s) := by
  have hb := hW.b
  obtain ⟨f, hlv1, hlv2⟩ := hlv
  have hjo : ∃ fs, hB jl = some (.inr (28, fs)) := by obtain ⟨m, f, z⟩ := hjl; exact ⟨_, z.1⟩
  obtain ⟨fsj, hjo⟩ := hjo
  have n1 : bk ≠ jl := fun z => by rw [z, hjo] at hbk; cases hbk
  have n2 : sh ≠ jl := fun z => by rw [z, hjo] at hsh; cases hsh
  have n3 : sb ≠ jl := fun z => by rw [z, hjo] at hsb; cases hsb
  have n4 : lv ≠ jl := fun z => by rw [z, hjo] at hlv1; cases hlv1
  have n5 : ∀ t, t < zHi s * zWi s → La t ≠ jl := fun t ht z => by have := hly t ht; rw [z, hjo] at this; cases this
  have n6 : bk ≠ sb := fun z => by rw [z, hsb] at hbk; cases hbk
  have n7 : lv ≠ sb := fun z => by rw [z, hsb] at hlv1; simp at hlv1
  have n8 : ∀ t, t < zHi s * zWi s → La t ≠ sb := fun t ht z => by have := hly t ht; rw [z, hsb] at this; cases this
  have hmem : ∀ x ∈ jL (zHi s) (zWi s) ly (lfA ly (zHi s * zWi s)) (zHi s * zWi s), x.1 < x.2.1 ∧ x.2.1 < zHi s * zWi s ∧ x.2.2 < 4 := fun x hx => by
    have := (jP_mem _ (Nat.le_refl _)).mp (hp.mem_iff.mpr hx)
    exact ⟨this.2.1, this.2.2.1, p_edge_lt this.2.2.2⟩
  have hlen := jL_len (zHi s) (zWi s) ly (lfA ly (zHi s * zWi s)) (zHi s * zWi s)
  refine x_aload_n (M := mX8_init) (pc := 43) dX8_init_43 rfl ?_
  refine x_V0 (M := mX8_init) (pc := 44) (M' := mX8_join) q1135 kVX8_join dX8_init_44 (c_join hB bk sh lv jl (d - 1) (zHi s * zWi s) (zHi s) (zWi s) (by omega) _ P s ly La f rfl rfl rfl (by omega) (by omega) (by omega) (by omega) hbk hsh hlv1 hlv2 hly hper hjl) (xIs.of kcX8 (by first | assumption | exact xu_s _ _ _ | exact (xu_n (by first | assumption | exact Ne.symm (by assumption) | exact xu_fresh (by assumption) (by assumption) | exact (xu_fresh (by assumption) (by assumption)).symm)).trans (by first | assumption | exact xu_s _ _ _ | exact (xu_n (by first | assumption | exact Ne.symm (by assumption) | exact xu_fresh (by assumption) (by assumption) | exact (xu_fresh (by assumption) (by assumption)).symm)).trans (by first | assumption | exact xu_s _ _ _ | exact (xu_n (by first | assumption | exact Ne.symm (by assumption) | exact xu_fresh (by assumption) (by assumption) | exact (xu_fresh (by assumption) (by assumption)).symm)).trans (by first | assumption | exact xu_s _ _ _))))) (fun v_ h hq_ => ?_)
  obtain ⟨hv_, ja, xs, cap, w1, w2⟩ := hq_; cases hv_
  rotate_left
  refine x_iconst (M := mX8_init) (pc := 47) (v := nI 0) dX8_init_47 (by decide) ?_
  refine x_istore3 (M := mX8_init) (pc := 48) dX8_init_48 ?_
  refine j_bkl h bk sh fo d _ _ _ _ sb lv jl ja cap (by omega) P s hW xs _ (w2 _ _ n1 hbk) (w2 _ _ n2 hsh) w1 hmem (by omega) _ (w2 _ _ n3 hsb) Q (fun h1 z1 z2 => hE h1 xs ⟨lv, jl, ja, cap, sb, z2 _ _ n6 (w2 _ _ n1 hbk), ⟨f, z2 _ _ n7 (w2 _ _ n4 hlv1), hlv2⟩, fun t ht => z2 _ _ (n8 t ht) (w2 _ _ (n5 t ht) (hly t ht)), ?_, ?_⟩ (fun a e na ha => z2 _ _ (fun z => ?_) (w2 _ _ (fun z => ?_) (hle a e na ha)))) (by omega) (by omega) _ 0 (Nat.le_refl _) (Nat.zero_le _) h _ none none (w2 _ _ n3 hsb) (fun i hi => by simp [orL]; rfl) (fun _ _ _ z => z)
  · obtain ⟨⟨mm, ff, y⟩, y2, y3⟩ := w1
    refine ⟨⟨mm, ff, z2 _ _ (fun w => ?_) y.1, y.2.1.imp (fun y => z2 _ _ (fun w => ?_) y) id, y.2.2⟩, y2, fun k hk => z2 _ _ (fun w => ?_) (y3 k hk)⟩
    · have := w2 _ _ n3 hsb; rw [← w, y.1] at this; cases this
    · have := w2 _ _ n3 hsb; rw [← w, y] at this; simp at this
    · have := w2 _ _ n3 hsb; rw [← w, y3 k hk] at this; cases this
  · exact z1.keep (fun _ z => z) (fun k hk => by rw [shut_eq hp (by omega)])
  · rw [z, ns] at ha; cases ha
  · rw [z, nj] at ha; cases ha
/-- what a folding must be so that a booklet is made of it -/
theorem c_bkInit (h00 h : xH) (bk sh fo n d : Nat) (F : Nat → Nat) (hd : 10 ≤ d) (P : Nat → Nat) (s : Row) (hW : WF s) (v0 v1 v2 v3 : Value) (hbk : h bk = some (.inr (8, [v0, v1, v2, v3]))) (hsh : h sh = some (shE P s)) (hcs : p_cans (zHi s) (zWi s) F n = true) (h2n : 2 ^ n = zHi s * zWi s) (hF : FDN g h00 h fo (zHi s) (zWi s) F n) :
    Ct g l mX8_init d 67 (2 * (zHi s * zWi s) + 180) [.ref bk, .ref sh, .ref fo] h (fun o h' => o = .inl none ∧ ∃ La xs, BKL g h' bk sh s (p_layn (zHi s) (zWi s) F n).2.2.2 La xs (jL (zHi s) (zWi s) (p_layn (zHi s) (zWi s) F n).2.2.2 (lfA (p_layn (zHi s) (zWi s) F n).2.2.2 (zHi s * zWi s)) (zHi s * zWi s)) ∧ xle1 bk h h') := by
  have hb := hW.b
  obtain ⟨hp, hper⟩ := ly_all hW.ok hcs h2n
  obtain ⟨o1, o2⟩ := p_layn_ok hW.ok n hcs
  have o3 := p_layn_ma (zHi s) (zWi s) F n
  obtain ⟨-, -, -, o4, o5, -, -⟩ := p_ok_b o1
  obtain ⟨PL, pl, La, f1, ⟨pf, f2, f2'⟩, f3, f4, f5, f6, f7, f8⟩ := hF
  rw [h2n] at o3
  rw [o3] at o2
  have e12 : (p_layn (zHi s) (zWi s) F n).1 * (p_layn (zHi s) (zWi s) F n).2.1 = 1 := Nat.eq_of_mul_eq_mul_right (by omega : 0 < zHi s * zWi s) (by omega)
  rw [e12] at f2 f2' f3 f4
  have f2' := f2' 0 (by omega)
  have f3 := f3 0 (by omega)
  rw [o3] at f3 f4
  rw [Nat.one_mul] at f4
  simp only [Nat.mul_zero, Nat.zero_add] at f3
  generalize (p_layn (zHi s) (zWi s) F n).2.2.2 = ly at *
  have hla := f3
  obtain ⟨lf, f31, f32⟩ := f3
  have n1 : fo ≠ bk := fun z => by rw [z, hbk] at f1; cases f1
  have n2 : sh ≠ bk := fun z => by rw [z, hbk] at hsh; cases hsh
  have n3 : PL ≠ bk := fun z => by rw [z, hbk] at f2; cases f2
  have n4 : pl 0 ≠ bk := fun z => by rw [z, hbk] at f31; cases f31
  have n5 : ∀ t, t < zHi s * zWi s → La t ≠ bk := fun t ht z => by have := f4 t ht; rw [z, hbk] at this; cases this
  have hv0 : va_rf (pf 0) = .ref (pl 0) := by rw [f2']; rfl
  refine Ct.of [some (.ref bk), some (.ref sh), some (.ref fo), none, none, none] (by decide +kernel) rfl (Nat.le_of_ble_eq_true rfl) rfl rfl ?_
  refine x_aload_n (M := mX8_init) (pc := 0) dX8_init_0 rfl ?_
  refine x_objInit (M := mX8_init) (pc := 1) q1132 dX8_init_1 (by first | exact Nat.le_of_ble_eq_true rfl | omega) (by first | exact Nat.le_of_ble_eq_true rfl | (simp [xcat_rf, Value.category])) ?_
  refine x_aload_n (M := mX8_init) (pc := 4) dX8_init_4 rfl ?_
  refine x_new (M := mX8_init) (pc := 5) kcJ2 q1133 dX8_init_5 (by first | exact Nat.le_of_ble_eq_true rfl | omega) (by first | exact Nat.le_of_ble_eq_true rfl | omega) (fun q5_ hq5_ hb5_ => ?_)
  (try simp only [xu_noneI] at hq5_)
  repeat (obtain ⟨_, hq5_⟩ : _ ∧ _ := hq5_)
  refine x_dup (M := mX8_init) (pc := 8) dX8_init_8 ?_
  refine x_I0 (M := mX8_init) (pc := 9) (M' := mJ2_init) q1134 kIJ2_init dX8_init_9 (j_ALinit _ q5_ (d - 1) _ _ (by omega) (xu_s _ _ _)) (fun v_ h hq_ => ?_)
  obtain ⟨hv_, rfl⟩ := hq_; cases hv_; rw [xu_xu]
  first | refine x_putF2' (M := mX8_init) (pc := 12) kcX8 q1202 dX8_init_12 ?_ | refine x_putF2 (M := mX8_init) (pc := 12) kcX8 q1202 dX8_init_12 (by first | assumption | exact xu_s _ _ _ | exact (xu_n (by first | assumption | exact Ne.symm (by assumption) | exact xu_fresh (by assumption) (by assumption) | exact (xu_fresh (by assumption) (by assumption)).symm)).trans (by first | assumption | exact xu_s _ _ _ | exact (xu_n (by first | assumption | exact Ne.symm (by assumption) | exact xu_fresh (by assumption) (by assumption) | exact (xu_fresh (by assumption) (by assumption)).symm)).trans (by first | assumption | exact xu_s _ _ _ | exact (xu_n (by first | assumption | exact Ne.symm (by assumption) | exact xu_fresh (by assumption) (by assumption) | exact (xu_fresh (by assumption) (by assumption)).symm)).trans (by first | assumption | exact xu_s _ _ _)))) ?_
  refine x_aload_n (M := mX8_init) (pc := 15) dX8_init_15 rfl ?_
  refine x_aload_n (M := mX8_init) (pc := 16) dX8_init_16 rfl ?_
  first | refine x_putF0' (M := mX8_init) (pc := 17) kcX8 q1198 dX8_init_17 ?_ | refine x_putF0 (M := mX8_init) (pc := 17) kcX8 q1198 dX8_init_17 (by first | assumption | exact xu_s _ _ _ | exact (xu_n (by first | assumption | exact Ne.symm (by assumption) | exact xu_fresh (by assumption) (by assumption) | exact (xu_fresh (by assumption) (by assumption)).symm)).trans (by first | assumption | exact xu_s _ _ _ | exact (xu_n (by first | assumption | exact Ne.symm (by assumption) | exact xu_fresh (by assumption) (by assumption) | exact (xu_fresh (by assumption) (by assumption)).symm)).trans (by first | assumption | exact xu_s _ _ _ | exact (xu_n (by first | assumption | exact Ne.symm (by assumption) | exact xu_fresh (by assumption) (by assumption) | exact (xu_fresh (by assumption) (by assumption)).symm)).trans (by first | assumption | exact xu_s _ _ _)))) ?_
  refine x_aload_n (M := mX8_init) (pc := 20) dX8_init_20 rfl ?_
  refine x_aload_n (M := mX8_init) (pc := 21) dX8_init_21 rfl ?_
  refine x_getN (M := mX8_init) (pc := 22) kcX5 2 rfl q495 dX8_init_22 (by first | assumption | exact xu_s _ _ _ | exact (xu_n (by first | assumption | exact Ne.symm (by assumption) | exact xu_fresh (by assumption) (by assumption) | exact (xu_fresh (by assumption) (by assumption)).symm)).trans (by first | assumption | exact xu_s _ _ _ | exact (xu_n (by first | assumption | exact Ne.symm (by assumption) | exact xu_fresh (by assumption) (by assumption) | exact (xu_fresh (by assumption) (by assumption)).symm)).trans (by first | assumption | exact xu_s _ _ _ | exact (xu_n (by first | assumption | exact Ne.symm (by assumption) | exact xu_fresh (by assumption) (by assumption) | exact (xu_fresh (by assumption) (by assumption)).symm)).trans (by first | assumption | exact xu_s _ _ _)))) rfl ?_
  refine x_iconst (M := mX8_init) (pc := 25) (v := nI 0) dX8_init_25 (by decide) ?_
  refine x_aaldN (M := mX8_init) (pc := 26) _ dX8_init_26 (by first | assumption | exact xu_s _ _ _ | exact (xu_n (by first | assumption | exact Ne.symm (by assumption) | exact xu_fresh (by assumption) (by assumption) | exact (xu_fresh (by assumption) (by assumption)).symm)).trans (by first | assumption | exact xu_s _ _ _ | exact (xu_n (by first | assumption | exact Ne.symm (by assumption) | exact xu_fresh (by assumption) (by assumption) | exact (xu_fresh (by assumption) (by assumption)).symm)).trans (by first | assumption | exact xu_s _ _ _ | exact (xu_n (by first | assumption | exact Ne.symm (by assumption) | exact xu_fresh (by assumption) (by assumption) | exact (xu_fresh (by assumption) (by assumption)).symm)).trans (by first | assumption | exact xu_s _ _ _)))) (by first | rfl | assumption) (by first | assumption | omega) (by first | decide | omega) (hv0) ?_
  first | refine x_putF1' (M := mX8_init) (pc := 27) kcX8 q1200 dX8_init_27 ?_ | refine x_putF1 (M := mX8_init) (pc := 27) kcX8 q1200 dX8_init_27 (by first | assumption | exact xu_s _ _ _ | exact (xu_n (by first | assumption | exact Ne.symm (by assumption) | exact xu_fresh (by assumption) (by assumption) | exact (xu_fresh (by assumption) (by assumption)).symm)).trans (by first | assumption | exact xu_s _ _ _ | exact (xu_n (by first | assumption | exact Ne.symm (by assumption) | exact xu_fresh (by assumption) (by assumption) | exact (xu_fresh (by assumption) (by assumption)).symm)).trans (by first | assumption | exact xu_s _ _ _ | exact (xu_n (by first | assumption | exact Ne.symm (by assumption) | exact xu_fresh (by assumption) (by assumption) | exact (xu_fresh (by assumption) (by assumption)).symm)).trans (by first | assumption | exact xu_s _ _ _)))) ?_
  refine x_aload_n (M := mX8_init) (pc := 30) dX8_init_30 rfl ?_
  refine x_aload_n (M := mX8_init) (pc := 31) dX8_init_31 rfl ?_
  refine x_get (M := mX8_init) (pc := 32) kcX8 1 rfl q1200 dX8_init_32 (by first | assumption | exact xu_s _ _ _ | exact (xu_n (by first | assumption | exact Ne.symm (by assumption) | exact xu_fresh (by assumption) (by assumption) | exact (xu_fresh (by assumption) (by assumption)).symm)).trans (by first | assumption | exact xu_s _ _ _ | exact (xu_n (by first | assumption | exact Ne.symm (by assumption) | exact xu_fresh (by assumption) (by assumption) | exact (xu_fresh (by assumption) (by assumption)).symm)).trans (by first | assumption | exact xu_s _ _ _ | exact (xu_n (by first | assumption | exact Ne.symm (by assumption) | exact xu_fresh (by assumption) (by assumption) | exact (xu_fresh (by assumption) (by assumption)).symm)).trans (by first | assumption | exact xu_s _ _ _)))) rfl ?_
  refine x_alen (M := mX8_init) (pc := 35) dX8_init_35 (by first | assumption | exact xu_s _ _ _ | exact (xu_n (by first | assumption | exact Ne.symm (by assumption) | exact xu_fresh (by assumption) (by assumption) | exact (xu_fresh (by assumption) (by assumption)).symm)).trans (by first | assumption | exact xu_s _ _ _ | exact (xu_n (by first | assumption | exact Ne.symm (by assumption) | exact xu_fresh (by assumption) (by assumption) | exact (xu_fresh (by assumption) (by assumption)).symm)).trans (by first | assumption | exact xu_s _ _ _ | exact (xu_n (by first | assumption | exact Ne.symm (by assumption) | exact xu_fresh (by assumption) (by assumption) | exact (xu_fresh (by assumption) (by assumption)).symm)).trans (by first | assumption | exact xu_s _ _ _)))) rfl ?_
  refine x_iconst (M := mX8_init) (pc := 36) (v := nI 1) dX8_init_36 (by decide) ?_
  first | with_reducible refine x_iaddN (M := mX8_init) (pc := 37) dX8_init_37 ?_ | refine x_iadd (M := mX8_init) (pc := 37) dX8_init_37 ?_
  refine x_newI (M := mX8_init) (pc := 38) _ dX8_init_38 (by first | rfl | assumption) (by first | exact Nat.le_of_ble_eq_true rfl | omega) (by first | exact Nat.le_of_ble_eq_true rfl | omega) (by first | exact Nat.le_of_ble_eq_true rfl | omega) (fun q38_ hq38_ hb38_ => ?_)
  (try simp only [xu_noneI] at hq38_)
  repeat (obtain ⟨_, hq38_⟩ : _ ∧ _ := hq38_)
  first | refine x_putF3' (M := mX8_init) (pc := 40) kcX8 q1203 dX8_init_40 ?_ | refine x_putF3 (M := mX8_init) (pc := 40) kcX8 q1203 dX8_init_40 (by first | assumption | exact xu_s _ _ _ | exact (xu_n (by first | assumption | exact Ne.symm (by assumption) | exact xu_fresh (by assumption) (by assumption) | exact (xu_fresh (by assumption) (by assumption)).symm)).trans (by first | assumption | exact xu_s _ _ _ | exact (xu_n (by first | assumption | exact Ne.symm (by assumption) | exact xu_fresh (by assumption) (by assumption) | exact (xu_fresh (by assumption) (by assumption)).symm)).trans (by first | assumption | exact xu_s _ _ _ | exact (xu_n (by first | assumption | exact Ne.symm (by assumption) | exact xu_fresh (by assumption) (by assumption) | exact (xu_fresh (by assumption) (by assumption)).symm)).trans (by first | assumption | exact xu_s _ _ _)))) ?_
  rotate_left
  have m1 : ∀ a e, a ≠ bk → h a = some e → a ≠ q5_ := fun a e _ ha => xu_fresh hq5_ ha
  have m2 : ∀ a e, a ≠ bk → h a = some e → a ≠ q38_ := fun a e _ ha => xu_fresh hq38_ ha
  refine x_cst (M := mX8_init) (pc := 43) (fun _ _ _ hx0 => ?_)
  have hx5 : xca g 0 0 ≠ q5_ := fun z => by
    rw [← z] at hx0
    simp [xu_noneI] at hx0
  refine x_use (by omega) (by omega) (j_bk43 h _ bk sh fo d q38_ (pl 0) q5_ hd P s hW ly La (xu_s _ _ _) ?_ ?_ (fun t ht => ?_) (fun t ht => ⟨(hper t ht).1, (hper t ht).2.2⟩) hp ?_ ?_ (fun a e na ha => ?_) hq5_ hq38_ _ (fun h1 xs z1 z2 => ⟨rfl, La, xs, z1, z2⟩))
  · exact (xu_n n2).trans ((xu_n (m2 _ _ n2 hsh)).trans ((xu_n n2).trans ((xu_n (m1 _ _ n2 hsh)).trans hsh)))
  · exact ⟨lf, (xu_n n4).trans ((xu_n (m2 _ _ n4 f31)).trans ((xu_n n4).trans ((xu_n (m1 _ _ n4 f31)).trans f31))), f32⟩
  · have q := f4 t ht
    have nn := n5 t ht
    exact (xu_n nn).trans ((xu_n (m2 _ _ nn q)).trans ((xu_n nn).trans ((xu_n (m1 _ _ nn q)).trans q)))
  · exact ⟨nI 0, fun _ => none, (xu_n (xu_fresh hq5_ hbk).symm).trans ((xu_n (Ne.symm (by assumption))).trans ((xu_n (xu_fresh hq5_ hbk).symm).trans (xu_s _ _ _))), Or.inr ⟨rfl, rfl⟩, Nat.le_refl _, by decide, fun i hi => absurd hi (Nat.not_lt_zero i), fun _ _ _ => rfl, hx5, fun _ => rfl⟩
  · exact (xu_n (by assumption)).trans (xu_s _ _ _)
  · exact (xu_n na).trans ((xu_n (m2 _ _ na ha)).trans ((xu_n na).trans ((xu_n (m1 _ _ na ha)).trans ha)))
end BKINIT

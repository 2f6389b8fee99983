/-! java.util.TreeMap: after an insertion (by program) -/
section JDKTM2
set_option maxRecDepth 100000
variable {g : xG} {l : Launch} {h h0 : xH}
section
variable {M : xM} {d mc ms : Nat} {Q : xO → xH → Prop} {pc : Nat} {Lo : List (Option Value)} {st : List Value} {uc us : Nat}
variable {tm : Nat} {o : va_E} {ns : List Nat} {K : Nat → Nat} {V : Nat → Option Nat} {L R P : Nat → Option Nat} {C : Nat → Bool}
theorem x_tg5 {n idx : Nat} (hT : TN h tm o ns K V L R P C) (hn : n ∈ ns) (hl : Cond.fieldLink M.1.cls idx (TJ32 5).1 (TJ32 5).2.1 (TJ32 5).2.2.1 ∈ lw_all) (hd : decode M.2.1 pc = .ok (.getfield idx, 3)) (kk : X g l M d mc ms Q (pc + 3) Lo (.int (bI (C n)) :: st) h uc us) : X g l M d mc ms Q pc Lo (.ref n :: st) h uc us :=
  x_get kcJ32 5 rfl hl hd (hT.2.1 n hn) rfl kk
theorem x_tgr {rt : Option Nat} {sz md : Int32} {nk : Option Nat} {idx : Nat} {v : Value} (hT : TN h tm (tobj rt sz md nk) ns K V L R P C) (hv : va_rf rt = v) (hl : Cond.fieldLink M.1.cls idx (TJ21 3).1 (TJ21 3).2.1 (TJ21 3).2.2.1 ∈ lw_all) (hd : decode M.2.1 pc = .ok (.getfield idx, 3)) (kk : X g l M d mc ms Q (pc + 3) Lo (v :: st) h uc us) : X g l M d mc ms Q pc Lo (.ref tm :: st) h uc us := by
  subst hv; exact x_get kcJ21 3 rfl hl hd hT.1 rfl kk
end
theorem j_parentOf (h : xH) (tm : Nat) (o : va_E) (ns : List Nat) (K : Nat → Nat) (V : Nat → Option Nat) (L R P : Nat → Option Nat) (C : Nat → Bool) (hT : TN h tm o ns K V L R P C) (n d : Nat) (hn : n ∈ ns) (v : Value) (hv : va_rf (P n) = v) : Ct g l mJ21_parentOf d 0 0 [.ref n] h (fun o h' => o = .inl (some v) ∧ h' = h) := by
  refine Ct.of [some (.ref n)] (by decide +kernel) rfl (Nat.le_of_ble_eq_true rfl) rfl rfl ?_
  refine x_aload_n (M := mJ21_parentOf) (pc := 0) dJ21_parentOf_0 rfl ?_
  refine x_ifnonnullR (M := mJ21_parentOf) (pc := 1) 8 dJ21_parentOf_1 (by decide) ?_
  refine x_aload_n (M := mJ21_parentOf) (pc := 8) dJ21_parentOf_8 rfl ?_
  refine x_tg4 (M := mJ21_parentOf) (pc := 9) hT hn rfl q2553 dJ21_parentOf_9 ?_
  refine x_aret (M := mJ21_parentOf) (pc := 12) dJ21_parentOf_12 rfl (by first | exact Or.inl ⟨_, rfl⟩ | exact Or.inr ⟨_, rfl⟩) (by first | exact Nat.le_of_ble_eq_true rfl | omega) (by first | exact Nat.le_of_ble_eq_true rfl | omega) ?_
  exact ⟨by rw [hv], rfl⟩
theorem j_leftOf (h : xH) (tm : Nat) (o : va_E) (ns : List Nat) (K : Nat → Nat) (V : Nat → Option Nat) (L R P : Nat → Option Nat) (C : Nat → Bool) (hT : TN h tm o ns K V L R P C) (n d : Nat) (hn : n ∈ ns) (v : Value) (hv : va_rf (L n) = v) : Ct g l mJ21_leftOf d 0 0 [.ref n] h (fun o h' => o = .inl (some v) ∧ h' = h) := by
  refine Ct.of [some (.ref n)] (by decide +kernel) rfl (Nat.le_of_ble_eq_true rfl) rfl rfl ?_
  refine x_aload_n (M := mJ21_leftOf) (pc := 0) dJ21_leftOf_0 rfl ?_
  refine x_ifnonnullR (M := mJ21_leftOf) (pc := 1) 8 dJ21_leftOf_1 (by decide) ?_
  refine x_aload_n (M := mJ21_leftOf) (pc := 8) dJ21_leftOf_8 rfl ?_
  refine x_tg2 (M := mJ21_leftOf) (pc := 9) hT hn rfl q2550 dJ21_leftOf_9 ?_
  refine x_aret (M := mJ21_leftOf) (pc := 12) dJ21_leftOf_12 rfl (by first | exact Or.inl ⟨_, rfl⟩ | exact Or.inr ⟨_, rfl⟩) (by first | exact Nat.le_of_ble_eq_true rfl | omega) (by first | exact Nat.le_of_ble_eq_true rfl | omega) ?_
  exact ⟨by rw [hv], rfl⟩
theorem j_rightOf (h : xH) (tm : Nat) (o : va_E) (ns : List Nat) (K : Nat → Nat) (V : Nat → Option Nat) (L R P : Nat → Option Nat) (C : Nat → Bool) (hT : TN h tm o ns K V L R P C) (n d : Nat) (hn : n ∈ ns) (v : Value) (hv : va_rf (R n) = v) : Ct g l mJ21_rightOf d 0 0 [.ref n] h (fun o h' => o = .inl (some v) ∧ h' = h) := by
  refine Ct.of [some (.ref n)] (by decide +kernel) rfl (Nat.le_of_ble_eq_true rfl) rfl rfl ?_
  refine x_aload_n (M := mJ21_rightOf) (pc := 0) dJ21_rightOf_0 rfl ?_
  refine x_ifnonnullR (M := mJ21_rightOf) (pc := 1) 8 dJ21_rightOf_1 (by decide) ?_
  refine x_aload_n (M := mJ21_rightOf) (pc := 8) dJ21_rightOf_8 rfl ?_
  refine x_tg3 (M := mJ21_rightOf) (pc := 9) hT hn rfl q2551 dJ21_rightOf_9 ?_
  refine x_aret (M := mJ21_rightOf) (pc := 12) dJ21_rightOf_12 rfl (by first | exact Or.inl ⟨_, rfl⟩ | exact Or.inr ⟨_, rfl⟩) (by first | exact Nat.le_of_ble_eq_true rfl | omega) (by first | exact Nat.le_of_ble_eq_true rfl | omega) ?_
  exact ⟨by rw [hv], rfl⟩
def oC (C : Nat → Bool) : Option Nat → Bool
  | none => true
  | some m => C m
theorem j_colorOf (h : xH) (tm : Nat) (o : va_E) (ns : List Nat) (K : Nat → Nat) (V : Nat → Option Nat) (L R P : Nat → Option Nat) (C : Nat → Bool) (hT : TN h tm o ns K V L R P C) (n : Option Nat) (d : Nat) (hn : ∀ m, n = some m → m ∈ ns) : Ct g l mJ21_colorOf d 0 0 [va_rf n] h (fun o h' => o = .inl (some (.int (bI (oC C n)))) ∧ h' = h) := by
  cases n with
  | none =>
    refine Ct.of [some (.null)] (by decide +kernel) rfl (Nat.le_of_ble_eq_true rfl) rfl rfl ?_
    refine x_aload_n (M := mJ21_colorOf) (pc := 0) dJ21_colorOf_0 rfl ?_
    refine x_ifnonnullN (M := mJ21_colorOf) (pc := 1) dJ21_colorOf_1 ?_
    refine x_iconst (M := mJ21_colorOf) (pc := 4) (v := nI 1) dJ21_colorOf_4 (by decide) ?_
    refine x_goto (M := mJ21_colorOf) (pc := 5) 12 dJ21_colorOf_5 (by decide) ?_
    refine x_zret (M := mJ21_colorOf) (pc := 12) dJ21_colorOf_12 rfl (by first | with_reducible exact xz0 | with_reducible exact xz1 | with_reducible exact bI_01 _ | with_reducible assumption | assumption) (by first | exact Nat.le_of_ble_eq_true rfl | omega) (by first | exact Nat.le_of_ble_eq_true rfl | omega) ?_
    exact ⟨rfl, rfl⟩
  | some n =>
    refine Ct.of [some (.ref n)] (by decide +kernel) rfl (Nat.le_of_ble_eq_true rfl) rfl rfl ?_
    refine x_aload_n (M := mJ21_colorOf) (pc := 0) dJ21_colorOf_0 rfl ?_
    refine x_ifnonnullR (M := mJ21_colorOf) (pc := 1) 8 dJ21_colorOf_1 (by decide) ?_
    refine x_aload_n (M := mJ21_colorOf) (pc := 8) dJ21_colorOf_8 rfl ?_
    refine x_tg5 (M := mJ21_colorOf) (pc := 9) hT (hn n rfl) q2555 dJ21_colorOf_9 ?_
    refine x_zret (M := mJ21_colorOf) (pc := 12) dJ21_colorOf_12 rfl (by first | with_reducible exact xz0 | with_reducible exact xz1 | with_reducible exact bI_01 _ | with_reducible assumption | assumption) (by first | exact Nat.le_of_ble_eq_true rfl | omega) (by first | exact Nat.le_of_ble_eq_true rfl | omega) ?_
    exact ⟨rfl, rfl⟩
theorem j_setColor (h : xH) (tm : Nat) (o : va_E) (ns : List Nat) (K : Nat → Nat) (V : Nat → Option Nat) (L R P : Nat → Option Nat) (C : Nat → Bool) (hT : TN h tm o ns K V L R P C) (n d : Nat) (hn : n ∈ ns) (b : Bool) (w : Int32) (hw : w = bI b) : Ct g l mJ21_setColor d 0 0 [.ref n, .int w] h (fun o' h' => o' = .inl none ∧ TN h' tm o ns K V L R P (va_up C n b) ∧ TF tm ns h h') := by
  subst hw
  refine Ct.of [some (.ref n), some (.int (bI b))] (by decide +kernel) rfl (Nat.le_of_ble_eq_true rfl) rfl rfl ?_
  refine x_aload_n (M := mJ21_setColor) (pc := 0) dJ21_setColor_0 rfl ?_
  refine x_ifnullR (M := mJ21_setColor) (pc := 1) dJ21_setColor_1 ?_
  refine x_aload_n (M := mJ21_setColor) (pc := 4) dJ21_setColor_4 rfl ?_
  refine x_iload_n (M := mJ21_setColor) (pc := 5) dJ21_setColor_5 rfl ?_
  refine x_tp5 (M := mJ21_setColor) (pc := 6) b rfl hT TF.rf hn q2555 dJ21_setColor_6 (fun h hT hF => ?_)
  refine x_vret (M := mJ21_setColor) (pc := 9) dJ21_setColor_9 rfl (by first | exact Nat.le_of_ble_eq_true rfl | omega) (by first | exact Nat.le_of_ble_eq_true rfl | omega) ?_
  exact ⟨rfl, hT, hF⟩
/-- what stands behind it: the same entries, in the same order -/
def FX (h0 : xH) (tm : Nat) (sz md : Int32) (nk : Option Nat) (ns : List Nat) (K : Nat → Nat) (V : Nat → Option Nat) (h : xH) : Prop := ∃ T L R P C, tIo T = ns ∧ tSh L R P T none ∧ TN h tm (tobj (tRt T) sz md nk) ns K V L R P C ∧ (∀ r, tRt T = some r → C r = true) ∧ TF tm ns h0 h
theorem j_fixE (h0 h : xH) (tm d : Nat) (sz md : Int32) (nk : Option Nat) (ns : List Nat) (K : Nat → Nat) (V : Nat → Option Nat) (T : Tre) (L R P : Nat → Option Nat) (C : Nat → Bool) (hio : tIo T = ns) (hS : tSh L R P T none) (hT : TN h tm (tobj (tRt T) sz md nk) ns K V L R P C) (hF : TF tm ns h0 h) (r : Nat) (hr : tRt T = some r) (a1 a2 : Option Value) (Q : xO → xH → Prop) (hE : ∀ h, FX h0 tm sz md nk ns K V h → Q (.inl none) h) : X g l mJ21_fixAfterInsertion d 0 0 Q 258 [some (.ref tm), a1, a2] [] h 0 0 := by
  have hrn : r ∈ ns := by rw [← hio]; exact tRt_mem hr
  refine x_aload_n (M := mJ21_fixAfterInsertion) (pc := 258) dJ21_fixAfterInsertion_258 rfl ?_
  refine x_tgr (M := mJ21_fixAfterInsertion) (pc := 259) hT (v := .ref r) (by rw [hr]; rfl) q2087 dJ21_fixAfterInsertion_259 ?_
  refine x_iconst (M := mJ21_fixAfterInsertion) (pc := 262) (v := nI 1) dJ21_fixAfterInsertion_262 (by decide) ?_
  refine x_tp5 (M := mJ21_fixAfterInsertion) (pc := 263) true rfl hT hF hrn q2555 dJ21_fixAfterInsertion_263 (fun h hT hF => ?_)
  refine x_vret (M := mJ21_fixAfterInsertion) (pc := 266) dJ21_fixAfterInsertion_266 rfl (by first | exact Nat.le_of_ble_eq_true rfl | omega) (by first | exact Nat.le_of_ble_eq_true rfl | omega) ?_
  exact hE h ⟨T, L, R, P, _, hio, hS, hT, fun r' hr' => by rw [hr] at hr'; cases hr'; simp [va_up], hF⟩
/-- the loop's end: x is the root, or its parent is black -/
theorem j_fixX (h0 h : xH) (tm d : Nat) (sz md : Int32) (nk : Option Nat) (ns : List Nat) (K : Nat → Nat) (V : Nat → Option Nat) (T : Tre) (L R P : Nat → Option Nat) (C : Nat → Bool) (hio : tIo T = ns) (hS : tSh L R P T none) (hT : TN h tm (tobj (tRt T) sz md nk) ns K V L R P C) (hF : TF tm ns h0 h) (x : Nat) (hx : x ∈ ns) (hxx : tRt T = some x ∨ ∃ p, p ∈ ns ∧ P x = some p ∧ C p = true) (a2 : Option Value) (Q : xO → xH → Prop) (hE : ∀ h, FX h0 tm sz md nk ns K V h → Q (.inl none) h) : X g l mJ21_fixAfterInsertion d 0 0 Q 5 [some (.ref tm), some (.ref x), a2] [] h 0 0 := by
  obtain ⟨r, hr⟩ : ∃ r, tRt T = some r := by
    cases T with
    | leaf => rw [← hio] at hx; simp [tIo] at hx
    | inner s n v l' r' => exact ⟨n, rfl⟩
  have fin := j_fixE (g := g) (l := l) h0 h tm d sz md nk ns K V T L R P C hio hS hT hF r hr (some (.ref x)) a2 Q hE
  refine x_aload_n (M := mJ21_fixAfterInsertion) (pc := 5) dJ21_fixAfterInsertion_5 rfl ?_
  refine x_ifnullR (M := mJ21_fixAfterInsertion) (pc := 6) dJ21_fixAfterInsertion_6 ?_
  refine x_aload_n (M := mJ21_fixAfterInsertion) (pc := 9) dJ21_fixAfterInsertion_9 rfl ?_
  refine x_aload_n (M := mJ21_fixAfterInsertion) (pc := 10) dJ21_fixAfterInsertion_10 rfl ?_
  refine x_tgr (M := mJ21_fixAfterInsertion) (pc := 11) hT rfl q2087 dJ21_fixAfterInsertion_11 ?_
  refine x_acmp_eq (M := mJ21_fixAfterInsertion) (pc := 14) (some x) (tRt T) 258 dJ21_fixAfterInsertion_14 (by decide) rfl rfl (fun _ => fin) (fun hne => ?_)
  rcases hxx with hxx | ⟨p, hp, hP, hC⟩
  · exact absurd hxx.symm hne
  · refine x_aload_n (M := mJ21_fixAfterInsertion) (pc := 17) dJ21_fixAfterInsertion_17 rfl ?_
    refine x_tg4 (M := mJ21_fixAfterInsertion) (pc := 18) hT hx (v := .ref p) (by rw [hP]; rfl) q2553 dJ21_fixAfterInsertion_18 ?_
    refine x_tg5 (M := mJ21_fixAfterInsertion) (pc := 21) hT hp q2555 dJ21_fixAfterInsertion_21 ?_
    rw [hC]
    first | with_reducible refine x_ifB_ne (M := mJ21_fixAfterInsertion) (pc := 24) 258 dJ21_fixAfterInsertion_24 (by decide) (fun c24 => ?_) (fun c24 => ?_) | with_reducible refine x_if_neN (M := mJ21_fixAfterInsertion) (pc := 24) 258 dJ21_fixAfterInsertion_24 (by decide) (by omega) (fun c24 => ?_) (fun c24 => ?_) | refine x_if_ne (M := mJ21_fixAfterInsertion) (pc := 24) 258 dJ21_fixAfterInsertion_24 (by decide) (fun c24 => ?_) (fun c24 => ?_)
    · exact fin
    · exact absurd c24 (by decide)
theorem cRt_mem : ∀ {c : Cx} {n r : Nat}, cRt c (some n) = some r → r ≠ n → r ∈ cIoL c ∨ r ∈ cIoR c
  | [], n, r, h, hne => by simp [cRt] at h; exact absurd h.symm hne
  | (b, p, s) :: c, n, r, h, hne => by
    simp only [cRt] at h
    by_cases e : r = p
    · subst e; cases b <;> simp [cIoL, cIoR]
    · have := cRt_mem h e
      cases b <;> simp only [cIoL, cIoR, List.mem_append, List.mem_cons] <;> grind
theorem j_fixA (h0 h : xH) (tm d : Nat) (hd : 2 ≤ d) (sz md : Int32) (nk : Option Nat) (ns : List Nat) (nd : ns.Nodup) (K : Nat → Nat) (V : Nat → Option Nat) (L R P : Nat → Option Nat) (C : Nat → Bool) (b1 : Bool) (c2 : Cx) (x p gp : Nat) (a b s1 s2 : Tre) (hio : tIo (tPl ((b1, p, s1) :: (false, gp, s2) :: c2) (tn x a b)) = ns) (hS : tSh L R P (tPl ((b1, p, s1) :: (false, gp, s2) :: c2) (tn x a b)) none) (hT : TN h tm (tobj (cRt c2 (some gp)) sz md nk) ns K V L R P C) (hF : TF tm ns h0 h) (hB : ∀ r, cRt c2 (some gp) = some r → C r = true) (a2 : Option Value) (Q : xO → xH → Prop) (hE : ∀ h, FX h0 tm sz md nk ns K V h → Q (.inl none) h)
    (hL : ∀ (h : xH) (C : Nat → Bool) (a2 : Option Value), TN h tm (tobj (cRt c2 (some gp)) sz md nk) ns K V L R P C → TF tm ns h0 h → (∀ r, cRt c2 (some gp) = some r → r ≠ gp → C r = true) → X g l mJ21_fixAfterInsertion d 0 0 Q 5 [some (.ref tm), some (.ref gp), a2] [] h 0 0) :
    X g l mJ21_fixAfterInsertion d 0 0 Q 44 [some (.ref tm), some (.ref x), a2] [] h 0 0 := by
  have hmem : ∀ n, n ∈ cIoL c2 ∨ n ∈ tIo s1 ∨ n ∈ tIo s2 ∨ n ∈ tIo a ∨ n ∈ tIo b ∨ n = x ∨ n = p ∨ n = gp ∨ n ∈ cIoR c2 → n ∈ ns := fun n hn => by
    rw [← hio, tIo_pl]; cases b1 <;> simp only [cIoL, cIoR, tIo, List.mem_append, List.mem_cons, List.not_mem_nil, or_false] <;> grind
  have hx : x ∈ ns := hmem x (by simp)
  have hp : p ∈ ns := hmem p (by simp)
  have hgp : gp ∈ ns := hmem gp (by simp)
  have hs2 : ∀ n, tRt s2 = some n → n ∈ tIo s2 := fun n => tRt_mem
  have hS0 := hS
  rw [tSh_pl] at hS
  obtain ⟨⟨hPp, hp1, hs1S, hPg, hg1, hs2S, hcS⟩, hPx, hLx, hRx, haS, hbS⟩ := hS
  simp only [tPar] at hPp hPg hPx
  have hFg : L gp = some p ∧ R gp = tRt s2 := by simpa using hg1
  have nd' := nd
  rw [← hio, tIo_pl] at nd'
  have hxp : x ≠ p := by cases b1 <;> simp only [cIoL, cIoR, tIo, List.nodup_append, List.nodup_cons, List.mem_append, List.mem_cons] at nd' <;> grind
  have hxg : x ≠ gp := by cases b1 <;> simp only [cIoL, cIoR, tIo, List.nodup_append, List.nodup_cons, List.mem_append, List.mem_cons] at nd' <;> grind
  have hpg : p ≠ gp := by cases b1 <;> simp only [cIoL, cIoR, tIo, List.nodup_append, List.nodup_cons, List.mem_append, List.mem_cons] at nd' <;> grind
  have hrt : ∀ r, cRt c2 (some gp) = some r → r ≠ gp → r ≠ p ∧ r ∉ tIo s2 := by
    intro r hr hrg
    have hrc : r ∈ cIoL c2 ∨ r ∈ cIoR c2 := cRt_mem hr hrg
    cases b1 <;> simp only [cIoL, cIoR, tIo, List.nodup_append, List.nodup_cons, List.mem_append, List.mem_cons] at nd' <;> grind
  have hs1x : x ∉ tIo s1 := by cases b1 <;> simp only [cIoL, cIoR, tIo, List.nodup_append, List.nodup_cons, List.mem_append, List.mem_cons] at nd' <;> grind
  clear nd'
  refine x_aload_n (M := mJ21_fixAfterInsertion) (pc := 44) dJ21_fixAfterInsertion_44 rfl ?_
  refine x_S1 (M := mJ21_fixAfterInsertion) (pc := 45) (M' := mJ21_parentOf) q2577 kSJ21_parentOf dJ21_fixAfterInsertion_45 (j_parentOf h tm _ ns K V _ _ _ _ hT x (d - 1) hx (.ref p) (by rw [hPx]; rfl)) (fun v_ h hq_ => ?_)
  obtain ⟨hv_, rfl⟩ := hq_; cases hv_
  refine x_S1 (M := mJ21_fixAfterInsertion) (pc := 48) (M' := mJ21_parentOf) q2577 kSJ21_parentOf dJ21_fixAfterInsertion_48 (j_parentOf h tm _ ns K V _ _ _ _ hT p (d - 1) hp (.ref gp) (by rw [hPp]; rfl)) (fun v_ h hq_ => ?_)
  obtain ⟨hv_, rfl⟩ := hq_; cases hv_
  refine x_S1 (M := mJ21_fixAfterInsertion) (pc := 51) (M' := mJ21_rightOf) q2583 kSJ21_rightOf dJ21_fixAfterInsertion_51 (j_rightOf h tm _ ns K V _ _ _ _ hT gp (d - 1) hgp (va_rf (tRt s2)) (by rw [hFg.2])) (fun v_ h hq_ => ?_)
  obtain ⟨hv_, rfl⟩ := hq_; cases hv_
  refine x_astore2 (M := mJ21_fixAfterInsertion) (pc := 54) dJ21_fixAfterInsertion_54 ?_
  refine x_aload_n (M := mJ21_fixAfterInsertion) (pc := 55) dJ21_fixAfterInsertion_55 rfl ?_
  refine x_S1 (M := mJ21_fixAfterInsertion) (pc := 56) (M' := mJ21_colorOf) q2586 kSJ21_colorOf dJ21_fixAfterInsertion_56 (j_colorOf h tm _ ns K V _ _ _ _ hT (tRt s2) (d - 1) (fun n hn => hmem n (by simp [hs2 n hn]))) (fun v_ h hq_ => ?_)
  obtain ⟨hv_, rfl⟩ := hq_; cases hv_
  first | with_reducible refine x_ifB_ne (M := mJ21_fixAfterInsertion) (pc := 59) 97 dJ21_fixAfterInsertion_59 (by decide) (fun c59 => ?_) (fun c59 => ?_) | with_reducible refine x_if_neN (M := mJ21_fixAfterInsertion) (pc := 59) 97 dJ21_fixAfterInsertion_59 (by decide) (by omega) (fun c59 => ?_) (fun c59 => ?_) | refine x_if_ne (M := mJ21_fixAfterInsertion) (pc := 59) 97 dJ21_fixAfterInsertion_59 (by decide) (fun c59 => ?_) (fun c59 => ?_)
  · have rest : ∀ (b1 : Bool) (p x : Nat) (s1 a b : Tre) (h : xH) (L R P : Nat → Option Nat), tIo (tPl ((false, p, s1) :: (false, gp, s2) :: c2) (tn x a b)) = ns → tSh L R P (tPl ((false, p, s1) :: (false, gp, s2) :: c2) (tn x a b)) none → TN h tm (tobj (cRt c2 (some gp)) sz md nk) ns K V L R P C → TF tm ns h0 h → p ≠ gp → x ∈ ns → p ∈ ns → ∀ a2 : Option Value, X g l mJ21_fixAfterInsertion d 0 0 Q 118 [some (.ref tm), some (.ref x), a2] [] h 0 0 := by
      intro b1 p x s1 a b h L R P hio hS hT hF hpg hx hp a2
      have hS0 := hS
      rw [tSh_pl] at hS
      obtain ⟨⟨hPp, hp1, hs1S, hPg, hg1, hs2S, hcS⟩, hPx, hLx, hRx, haS, hbS⟩ := hS
      simp only [tPar] at hPp hPg hPx
      refine x_aload_n (M := mJ21_fixAfterInsertion) (pc := 118) dJ21_fixAfterInsertion_118 rfl ?_
      refine x_S1 (M := mJ21_fixAfterInsertion) (pc := 119) (M' := mJ21_parentOf) q2577 kSJ21_parentOf dJ21_fixAfterInsertion_119 (j_parentOf h tm _ ns K V _ _ _ _ hT x (d - 1) hx (.ref p) (by rw [hPx]; rfl)) (fun v_ h hq_ => ?_)
      obtain ⟨hv_, rfl⟩ := hq_; cases hv_
      refine x_iconst (M := mJ21_fixAfterInsertion) (pc := 122) (v := nI 1) dJ21_fixAfterInsertion_122 (by decide) ?_
      refine x_S2 (M := mJ21_fixAfterInsertion) (pc := 123) (M' := mJ21_setColor) q2589 kSJ21_setColor dJ21_fixAfterInsertion_123 (j_setColor h tm _ ns K V _ _ _ _ hT p (d - 1) hp true _ rfl) (fun v_ h hq_ => ?_)
      obtain ⟨hv_, hT_, hF_⟩ := hq_; cases hv_
      replace hF := hF.tr hF_
      replace hT := hT_
      clear hT_ hF_
      refine x_aload_n (M := mJ21_fixAfterInsertion) (pc := 126) dJ21_fixAfterInsertion_126 rfl ?_
      refine x_S1 (M := mJ21_fixAfterInsertion) (pc := 127) (M' := mJ21_parentOf) q2577 kSJ21_parentOf dJ21_fixAfterInsertion_127 (j_parentOf h tm _ ns K V _ _ _ _ hT x (d - 1) hx (.ref p) (by rw [hPx]; rfl)) (fun v_ h hq_ => ?_)
      obtain ⟨hv_, rfl⟩ := hq_; cases hv_
      refine x_S1 (M := mJ21_fixAfterInsertion) (pc := 130) (M' := mJ21_parentOf) q2577 kSJ21_parentOf dJ21_fixAfterInsertion_130 (j_parentOf h tm _ ns K V _ _ _ _ hT p (d - 1) hp (.ref gp) (by rw [hPp]; rfl)) (fun v_ h hq_ => ?_)
      obtain ⟨hv_, rfl⟩ := hq_; cases hv_
      refine x_iconst (M := mJ21_fixAfterInsertion) (pc := 133) (v := nI 0) dJ21_fixAfterInsertion_133 (by decide) ?_
      refine x_S2 (M := mJ21_fixAfterInsertion) (pc := 134) (M' := mJ21_setColor) q2589 kSJ21_setColor dJ21_fixAfterInsertion_134 (j_setColor h tm _ ns K V _ _ _ _ hT gp (d - 1) hgp false _ rfl) (fun v_ h hq_ => ?_)
      obtain ⟨hv_, hT_, hF_⟩ := hq_; cases hv_
      replace hF := hF.tr hF_
      replace hT := hT_
      clear hT_ hF_
      refine x_aload_n (M := mJ21_fixAfterInsertion) (pc := 137) dJ21_fixAfterInsertion_137 rfl ?_
      refine x_aload_n (M := mJ21_fixAfterInsertion) (pc := 138) dJ21_fixAfterInsertion_138 rfl ?_
      refine x_S1 (M := mJ21_fixAfterInsertion) (pc := 139) (M' := mJ21_parentOf) q2577 kSJ21_parentOf dJ21_fixAfterInsertion_139 (j_parentOf h tm _ ns K V _ _ _ _ hT x (d - 1) hx (.ref p) (by rw [hPx]; rfl)) (fun v_ h hq_ => ?_)
      obtain ⟨hv_, rfl⟩ := hq_; cases hv_
      refine x_S1 (M := mJ21_fixAfterInsertion) (pc := 142) (M' := mJ21_parentOf) q2577 kSJ21_parentOf dJ21_fixAfterInsertion_142 (j_parentOf h tm _ ns K V _ _ _ _ hT p (d - 1) hp (.ref gp) (by rw [hPp]; rfl)) (fun v_ h hq_ => ?_)
      obtain ⟨hv_, rfl⟩ := hq_; cases hv_
      have hq1 : tPl ((false, p, s1) :: (false, gp, s2) :: c2) (tn x a b) = tPl c2 (tn gp (tn p (tn x a b) (s1)) (s2)) := rfl
      rw [hq1] at hio hS0
      refine x_V1 (M := mJ21_fixAfterInsertion) (pc := 145) (M' := mJ21_rotateRight) q2596 kVJ21_rotateRight dJ21_fixAfterInsertion_145 (j_rotR h tm (d - 1) sz md nk ns K V L R P _ c2 gp p (s2) (s1) (tn x a b) hio.symm hS0 nd hT) (xIs.of kcJ21 hT.1) (fun v_ h1 hq_ => ?_)
      obtain ⟨hv_, hT1, hF1⟩ := hq_; cases hv_
      refine x_goto (M := mJ21_fixAfterInsertion) (pc := 148) 5 dJ21_fixAfterInsertion_148 (by decide) ?_
      have hS2 := rotR_sh hS0 (by rw [hio]; exact nd)
      refine j_fixX h0 h1 tm d sz md nk ns K V (tPl c2 (tn p (tn x a b) (tn gp s1 s2))) _ _ _ _ ((rotR_io c2 gp p s2 s1 (tn x a b)).trans hio) hS2 (by rw [tRt_pl]; exact hT1) (hF.tr hF1) x hx (Or.inr ⟨p, hp, ?_, ?_⟩) _ Q hE
      · rw [tSh_pl] at hS2
        exact hS2.2.2.2.2.1.1
      · simp [va_up, hpg]
    refine x_aload_n (M := mJ21_fixAfterInsertion) (pc := 97) dJ21_fixAfterInsertion_97 rfl ?_
    refine x_aload_n (M := mJ21_fixAfterInsertion) (pc := 98) dJ21_fixAfterInsertion_98 rfl ?_
    refine x_S1 (M := mJ21_fixAfterInsertion) (pc := 99) (M' := mJ21_parentOf) q2577 kSJ21_parentOf dJ21_fixAfterInsertion_99 (j_parentOf h tm _ ns K V _ _ _ _ hT x (d - 1) hx (.ref p) (by rw [hPx]; rfl)) (fun v_ h hq_ => ?_)
    obtain ⟨hv_, rfl⟩ := hq_; cases hv_
    refine x_S1 (M := mJ21_fixAfterInsertion) (pc := 102) (M' := mJ21_rightOf) q2583 kSJ21_rightOf dJ21_fixAfterInsertion_102 (j_rightOf h tm _ ns K V _ _ _ _ hT p (d - 1) hp (va_rf (R p)) rfl) (fun v_ h hq_ => ?_)
    obtain ⟨hv_, rfl⟩ := hq_; cases hv_
    refine x_acmp_ne (M := mJ21_fixAfterInsertion) (pc := 105) (some x) (R p) 118 dJ21_fixAfterInsertion_105 (by decide) rfl rfl (fun hne => ?_) (fun heq => ?_)
    · cases b1 with
      | false =>
        exact rest false p x s1 a b h L R P hio hS0 hT hF hpg hx hp _
      | true =>
        have := hp1; simp at this; exact absurd this.1.symm hne
    · cases b1 with
      | false =>
        have := hp1; simp at this; rw [this.2] at heq; exact absurd (tRt_mem heq.symm) hs1x
      | true =>
        refine x_aload_n (M := mJ21_fixAfterInsertion) (pc := 108) dJ21_fixAfterInsertion_108 rfl ?_
        refine x_S1 (M := mJ21_fixAfterInsertion) (pc := 109) (M' := mJ21_parentOf) q2577 kSJ21_parentOf dJ21_fixAfterInsertion_109 (j_parentOf h tm _ ns K V _ _ _ _ hT x (d - 1) hx (.ref p) (by rw [hPx]; rfl)) (fun v_ h hq_ => ?_)
        obtain ⟨hv_, rfl⟩ := hq_; cases hv_
        refine x_astore1 (M := mJ21_fixAfterInsertion) (pc := 112) dJ21_fixAfterInsertion_112 ?_
        refine x_aload_n (M := mJ21_fixAfterInsertion) (pc := 113) dJ21_fixAfterInsertion_113 rfl ?_
        refine x_aload_n (M := mJ21_fixAfterInsertion) (pc := 114) dJ21_fixAfterInsertion_114 rfl ?_
        have hq1 : tPl ((true, p, s1) :: (false, gp, s2) :: c2) (tn x a b) = tPl ((false, gp, s2) :: c2) (tn p (s1) (tn x a b)) := rfl
        rw [hq1] at hio hS0
        refine x_V1 (M := mJ21_fixAfterInsertion) (pc := 115) (M' := mJ21_rotateLeft) q2592 kVJ21_rotateLeft dJ21_fixAfterInsertion_115 (j_rotL h tm (d - 1) sz md nk ns K V L R P C ((false, gp, s2) :: c2) p x s1 a b hio.symm hS0 nd hT) (xIs.of kcJ21 hT.1) (fun v_ h1 hq_ => ?_)
        obtain ⟨hv_, hT1, hF1⟩ := hq_; cases hv_
        have hS2 := rotL_sh hS0 (by rw [hio]; exact nd)
        exact rest false x p b s1 a h1 _ _ _ ((rotL_io ((false, gp, s2) :: c2) p x s1 a b).trans hio) hS2 hT1 (hF.tr hF1) hxg hp hx _
  · obtain ⟨ny, hny⟩ : ∃ ny, tRt s2 = some ny := by
      cases hz : tRt s2 with
      | none => rw [hz] at c59; exact absurd c59 (by simp [oC])
      | some ny => exact ⟨ny, rfl⟩
    have hyn : ny ∈ ns := hmem ny (by simp [hs2 ny hny])
    refine x_aload_n (M := mJ21_fixAfterInsertion) (pc := 62) dJ21_fixAfterInsertion_62 rfl ?_
    refine x_S1 (M := mJ21_fixAfterInsertion) (pc := 63) (M' := mJ21_parentOf) q2577 kSJ21_parentOf dJ21_fixAfterInsertion_63 (j_parentOf h tm _ ns K V _ _ _ _ hT x (d - 1) hx (.ref p) (by rw [hPx]; rfl)) (fun v_ h hq_ => ?_)
    obtain ⟨hv_, rfl⟩ := hq_; cases hv_
    refine x_iconst (M := mJ21_fixAfterInsertion) (pc := 66) (v := nI 1) dJ21_fixAfterInsertion_66 (by decide) ?_
    refine x_S2 (M := mJ21_fixAfterInsertion) (pc := 67) (M' := mJ21_setColor) q2589 kSJ21_setColor dJ21_fixAfterInsertion_67 (j_setColor h tm _ ns K V _ _ _ _ hT p (d - 1) hp true _ rfl) (fun v_ h hq_ => ?_)
    obtain ⟨hv_, hT_, hF_⟩ := hq_; cases hv_
    replace hF := hF.tr hF_
    replace hT := hT_
    clear hT_ hF_
    rw [hny]
    refine x_aload_n (M := mJ21_fixAfterInsertion) (pc := 70) dJ21_fixAfterInsertion_70 rfl ?_
    refine x_iconst (M := mJ21_fixAfterInsertion) (pc := 71) (v := nI 1) dJ21_fixAfterInsertion_71 (by decide) ?_
    refine x_S2 (M := mJ21_fixAfterInsertion) (pc := 72) (M' := mJ21_setColor) q2589 kSJ21_setColor dJ21_fixAfterInsertion_72 (j_setColor h tm _ ns K V _ _ _ _ hT ny (d - 1) hyn true _ rfl) (fun v_ h hq_ => ?_)
    obtain ⟨hv_, hT_, hF_⟩ := hq_; cases hv_
    replace hF := hF.tr hF_
    replace hT := hT_
    clear hT_ hF_
    refine x_aload_n (M := mJ21_fixAfterInsertion) (pc := 75) dJ21_fixAfterInsertion_75 rfl ?_
    refine x_S1 (M := mJ21_fixAfterInsertion) (pc := 76) (M' := mJ21_parentOf) q2577 kSJ21_parentOf dJ21_fixAfterInsertion_76 (j_parentOf h tm _ ns K V _ _ _ _ hT x (d - 1) hx (.ref p) (by rw [hPx]; rfl)) (fun v_ h hq_ => ?_)
    obtain ⟨hv_, rfl⟩ := hq_; cases hv_
    refine x_S1 (M := mJ21_fixAfterInsertion) (pc := 79) (M' := mJ21_parentOf) q2577 kSJ21_parentOf dJ21_fixAfterInsertion_79 (j_parentOf h tm _ ns K V _ _ _ _ hT p (d - 1) hp (.ref gp) (by rw [hPp]; rfl)) (fun v_ h hq_ => ?_)
    obtain ⟨hv_, rfl⟩ := hq_; cases hv_
    refine x_iconst (M := mJ21_fixAfterInsertion) (pc := 82) (v := nI 0) dJ21_fixAfterInsertion_82 (by decide) ?_
    refine x_S2 (M := mJ21_fixAfterInsertion) (pc := 83) (M' := mJ21_setColor) q2589 kSJ21_setColor dJ21_fixAfterInsertion_83 (j_setColor h tm _ ns K V _ _ _ _ hT gp (d - 1) hgp false _ rfl) (fun v_ h hq_ => ?_)
    obtain ⟨hv_, hT_, hF_⟩ := hq_; cases hv_
    replace hF := hF.tr hF_
    replace hT := hT_
    clear hT_ hF_
    refine x_aload_n (M := mJ21_fixAfterInsertion) (pc := 86) dJ21_fixAfterInsertion_86 rfl ?_
    refine x_S1 (M := mJ21_fixAfterInsertion) (pc := 87) (M' := mJ21_parentOf) q2577 kSJ21_parentOf dJ21_fixAfterInsertion_87 (j_parentOf h tm _ ns K V _ _ _ _ hT x (d - 1) hx (.ref p) (by rw [hPx]; rfl)) (fun v_ h hq_ => ?_)
    obtain ⟨hv_, rfl⟩ := hq_; cases hv_
    refine x_S1 (M := mJ21_fixAfterInsertion) (pc := 90) (M' := mJ21_parentOf) q2577 kSJ21_parentOf dJ21_fixAfterInsertion_90 (j_parentOf h tm _ ns K V _ _ _ _ hT p (d - 1) hp (.ref gp) (by rw [hPp]; rfl)) (fun v_ h hq_ => ?_)
    obtain ⟨hv_, rfl⟩ := hq_; cases hv_
    refine x_astore1 (M := mJ21_fixAfterInsertion) (pc := 93) dJ21_fixAfterInsertion_93 ?_
    refine x_goto (M := mJ21_fixAfterInsertion) (pc := 94) 148 dJ21_fixAfterInsertion_94 (by decide) ?_
    refine x_goto (M := mJ21_fixAfterInsertion) (pc := 148) 5 dJ21_fixAfterInsertion_148 (by decide) ?_
    refine hL h _ _ hT hF (fun r hr hrg => ?_)
    have h1 := hrt r hr hrg
    have h2 : r ≠ ny := fun z => h1.2 (by rw [z]; exact hs2 ny hny)
    simp [va_up, hrg, h1.1, h2, hB r hr]
theorem j_fixB (h0 h : xH) (tm d : Nat) (hd : 2 ≤ d) (sz md : Int32) (nk : Option Nat) (ns : List Nat) (nd : ns.Nodup) (K : Nat → Nat) (V : Nat → Option Nat) (L R P : Nat → Option Nat) (C : Nat → Bool) (b1 : Bool) (c2 : Cx) (x p gp : Nat) (a b s1 s2 : Tre) (hio : tIo (tPl ((b1, p, s1) :: (true, gp, s2) :: c2) (tn x a b)) = ns) (hS : tSh L R P (tPl ((b1, p, s1) :: (true, gp, s2) :: c2) (tn x a b)) none) (hT : TN h tm (tobj (cRt c2 (some gp)) sz md nk) ns K V L R P C) (hF : TF tm ns h0 h) (hB : ∀ r, cRt c2 (some gp) = some r → C r = true) (a2 : Option Value) (Q : xO → xH → Prop) (hE : ∀ h, FX h0 tm sz md nk ns K V h → Q (.inl none) h)
    (hL : ∀ (h : xH) (C : Nat → Bool) (a2 : Option Value), TN h tm (tobj (cRt c2 (some gp)) sz md nk) ns K V L R P C → TF tm ns h0 h → (∀ r, cRt c2 (some gp) = some r → r ≠ gp → C r = true) → X g l mJ21_fixAfterInsertion d 0 0 Q 5 [some (.ref tm), some (.ref gp), a2] [] h 0 0) :
    X g l mJ21_fixAfterInsertion d 0 0 Q 151 [some (.ref tm), some (.ref x), a2] [] h 0 0 := by
  have hmem : ∀ n, n ∈ cIoL c2 ∨ n ∈ tIo s1 ∨ n ∈ tIo s2 ∨ n ∈ tIo a ∨ n ∈ tIo b ∨ n = x ∨ n = p ∨ n = gp ∨ n ∈ cIoR c2 → n ∈ ns := fun n hn => by
    rw [← hio, tIo_pl]; cases b1 <;> simp only [cIoL, cIoR, tIo, List.mem_append, List.mem_cons, List.not_mem_nil, or_false] <;> grind
  have hx : x ∈ ns := hmem x (by simp)
  have hp : p ∈ ns := hmem p (by simp)
  have hgp : gp ∈ ns := hmem gp (by simp)
  have hs2 : ∀ n, tRt s2 = some n → n ∈ tIo s2 := fun n => tRt_mem
  have hS0 := hS
  rw [tSh_pl] at hS
  obtain ⟨⟨hPp, hp1, hs1S, hPg, hg1, hs2S, hcS⟩, hPx, hLx, hRx, haS, hbS⟩ := hS
  simp only [tPar] at hPp hPg hPx
  have hFg : R gp = some p ∧ L gp = tRt s2 := by simpa using hg1
  have nd' := nd
  rw [← hio, tIo_pl] at nd'
  have hxp : x ≠ p := by cases b1 <;> simp only [cIoL, cIoR, tIo, List.nodup_append, List.nodup_cons, List.mem_append, List.mem_cons] at nd' <;> grind
  have hxg : x ≠ gp := by cases b1 <;> simp only [cIoL, cIoR, tIo, List.nodup_append, List.nodup_cons, List.mem_append, List.mem_cons] at nd' <;> grind
  have hpg : p ≠ gp := by cases b1 <;> simp only [cIoL, cIoR, tIo, List.nodup_append, List.nodup_cons, List.mem_append, List.mem_cons] at nd' <;> grind
  have hrt : ∀ r, cRt c2 (some gp) = some r → r ≠ gp → r ≠ p ∧ r ∉ tIo s2 := by
    intro r hr hrg
    have hrc : r ∈ cIoL c2 ∨ r ∈ cIoR c2 := cRt_mem hr hrg
    cases b1 <;> simp only [cIoL, cIoR, tIo, List.nodup_append, List.nodup_cons, List.mem_append, List.mem_cons] at nd' <;> grind
  have hs1x : x ∉ tIo s1 := by cases b1 <;> simp only [cIoL, cIoR, tIo, List.nodup_append, List.nodup_cons, List.mem_append, List.mem_cons] at nd' <;> grind
  clear nd'
  refine x_aload_n (M := mJ21_fixAfterInsertion) (pc := 151) dJ21_fixAfterInsertion_151 rfl ?_
  refine x_S1 (M := mJ21_fixAfterInsertion) (pc := 152) (M' := mJ21_parentOf) q2577 kSJ21_parentOf dJ21_fixAfterInsertion_152 (j_parentOf h tm _ ns K V _ _ _ _ hT x (d - 1) hx (.ref p) (by rw [hPx]; rfl)) (fun v_ h hq_ => ?_)
  obtain ⟨hv_, rfl⟩ := hq_; cases hv_
  refine x_S1 (M := mJ21_fixAfterInsertion) (pc := 155) (M' := mJ21_parentOf) q2577 kSJ21_parentOf dJ21_fixAfterInsertion_155 (j_parentOf h tm _ ns K V _ _ _ _ hT p (d - 1) hp (.ref gp) (by rw [hPp]; rfl)) (fun v_ h hq_ => ?_)
  obtain ⟨hv_, rfl⟩ := hq_; cases hv_
  refine x_S1 (M := mJ21_fixAfterInsertion) (pc := 158) (M' := mJ21_leftOf) q2580 kSJ21_leftOf dJ21_fixAfterInsertion_158 (j_leftOf h tm _ ns K V _ _ _ _ hT gp (d - 1) hgp (va_rf (tRt s2)) (by rw [hFg.2])) (fun v_ h hq_ => ?_)
  obtain ⟨hv_, rfl⟩ := hq_; cases hv_
  refine x_astore2 (M := mJ21_fixAfterInsertion) (pc := 161) dJ21_fixAfterInsertion_161 ?_
  refine x_aload_n (M := mJ21_fixAfterInsertion) (pc := 162) dJ21_fixAfterInsertion_162 rfl ?_
  refine x_S1 (M := mJ21_fixAfterInsertion) (pc := 163) (M' := mJ21_colorOf) q2586 kSJ21_colorOf dJ21_fixAfterInsertion_163 (j_colorOf h tm _ ns K V _ _ _ _ hT (tRt s2) (d - 1) (fun n hn => hmem n (by simp [hs2 n hn]))) (fun v_ h hq_ => ?_)
  obtain ⟨hv_, rfl⟩ := hq_; cases hv_
  first | with_reducible refine x_ifB_ne (M := mJ21_fixAfterInsertion) (pc := 166) 204 dJ21_fixAfterInsertion_166 (by decide) (fun c59 => ?_) (fun c59 => ?_) | with_reducible refine x_if_neN (M := mJ21_fixAfterInsertion) (pc := 166) 204 dJ21_fixAfterInsertion_166 (by decide) (by omega) (fun c59 => ?_) (fun c59 => ?_) | refine x_if_ne (M := mJ21_fixAfterInsertion) (pc := 166) 204 dJ21_fixAfterInsertion_166 (by decide) (fun c59 => ?_) (fun c59 => ?_)
  · have rest : ∀ (b1 : Bool) (p x : Nat) (s1 a b : Tre) (h : xH) (L R P : Nat → Option Nat), tIo (tPl ((true, p, s1) :: (true, gp, s2) :: c2) (tn x a b)) = ns → tSh L R P (tPl ((true, p, s1) :: (true, gp, s2) :: c2) (tn x a b)) none → TN h tm (tobj (cRt c2 (some gp)) sz md nk) ns K V L R P C → TF tm ns h0 h → p ≠ gp → x ∈ ns → p ∈ ns → ∀ a2 : Option Value, X g l mJ21_fixAfterInsertion d 0 0 Q 225 [some (.ref tm), some (.ref x), a2] [] h 0 0 := by
      intro b1 p x s1 a b h L R P hio hS hT hF hpg hx hp a2
      have hS0 := hS
      rw [tSh_pl] at hS
      obtain ⟨⟨hPp, hp1, hs1S, hPg, hg1, hs2S, hcS⟩, hPx, hLx, hRx, haS, hbS⟩ := hS
      simp only [tPar] at hPp hPg hPx
      refine x_aload_n (M := mJ21_fixAfterInsertion) (pc := 225) dJ21_fixAfterInsertion_225 rfl ?_
      refine x_S1 (M := mJ21_fixAfterInsertion) (pc := 226) (M' := mJ21_parentOf) q2577 kSJ21_parentOf dJ21_fixAfterInsertion_226 (j_parentOf h tm _ ns K V _ _ _ _ hT x (d - 1) hx (.ref p) (by rw [hPx]; rfl)) (fun v_ h hq_ => ?_)
      obtain ⟨hv_, rfl⟩ := hq_; cases hv_
      refine x_iconst (M := mJ21_fixAfterInsertion) (pc := 229) (v := nI 1) dJ21_fixAfterInsertion_229 (by decide) ?_
      refine x_S2 (M := mJ21_fixAfterInsertion) (pc := 230) (M' := mJ21_setColor) q2589 kSJ21_setColor dJ21_fixAfterInsertion_230 (j_setColor h tm _ ns K V _ _ _ _ hT p (d - 1) hp true _ rfl) (fun v_ h hq_ => ?_)
      obtain ⟨hv_, hT_, hF_⟩ := hq_; cases hv_
      replace hF := hF.tr hF_
      replace hT := hT_
      clear hT_ hF_
      refine x_aload_n (M := mJ21_fixAfterInsertion) (pc := 233) dJ21_fixAfterInsertion_233 rfl ?_
      refine x_S1 (M := mJ21_fixAfterInsertion) (pc := 234) (M' := mJ21_parentOf) q2577 kSJ21_parentOf dJ21_fixAfterInsertion_234 (j_parentOf h tm _ ns K V _ _ _ _ hT x (d - 1) hx (.ref p) (by rw [hPx]; rfl)) (fun v_ h hq_ => ?_)
      obtain ⟨hv_, rfl⟩ := hq_; cases hv_
      refine x_S1 (M := mJ21_fixAfterInsertion) (pc := 237) (M' := mJ21_parentOf) q2577 kSJ21_parentOf dJ21_fixAfterInsertion_237 (j_parentOf h tm _ ns K V _ _ _ _ hT p (d - 1) hp (.ref gp) (by rw [hPp]; rfl)) (fun v_ h hq_ => ?_)
      obtain ⟨hv_, rfl⟩ := hq_; cases hv_
      refine x_iconst (M := mJ21_fixAfterInsertion) (pc := 240) (v := nI 0) dJ21_fixAfterInsertion_240 (by decide) ?_
      refine x_S2 (M := mJ21_fixAfterInsertion) (pc := 241) (M' := mJ21_setColor) q2589 kSJ21_setColor dJ21_fixAfterInsertion_241 (j_setColor h tm _ ns K V _ _ _ _ hT gp (d - 1) hgp false _ rfl) (fun v_ h hq_ => ?_)
      obtain ⟨hv_, hT_, hF_⟩ := hq_; cases hv_
      replace hF := hF.tr hF_
      replace hT := hT_
      clear hT_ hF_
      refine x_aload_n (M := mJ21_fixAfterInsertion) (pc := 244) dJ21_fixAfterInsertion_244 rfl ?_
      refine x_aload_n (M := mJ21_fixAfterInsertion) (pc := 245) dJ21_fixAfterInsertion_245 rfl ?_
      refine x_S1 (M := mJ21_fixAfterInsertion) (pc := 246) (M' := mJ21_parentOf) q2577 kSJ21_parentOf dJ21_fixAfterInsertion_246 (j_parentOf h tm _ ns K V _ _ _ _ hT x (d - 1) hx (.ref p) (by rw [hPx]; rfl)) (fun v_ h hq_ => ?_)
      obtain ⟨hv_, rfl⟩ := hq_; cases hv_
      refine x_S1 (M := mJ21_fixAfterInsertion) (pc := 249) (M' := mJ21_parentOf) q2577 kSJ21_parentOf dJ21_fixAfterInsertion_249 (j_parentOf h tm _ ns K V _ _ _ _ hT p (d - 1) hp (.ref gp) (by rw [hPp]; rfl)) (fun v_ h hq_ => ?_)
      obtain ⟨hv_, rfl⟩ := hq_; cases hv_
      have hq1 : tPl ((true, p, s1) :: (true, gp, s2) :: c2) (tn x a b) = tPl c2 (tn gp (s2) (tn p (s1) (tn x a b))) := rfl
      rw [hq1] at hio hS0
      refine x_V1 (M := mJ21_fixAfterInsertion) (pc := 252) (M' := mJ21_rotateLeft) q2592 kVJ21_rotateLeft dJ21_fixAfterInsertion_252 (j_rotL h tm (d - 1) sz md nk ns K V L R P _ c2 gp p (s2) (s1) (tn x a b) hio.symm hS0 nd hT) (xIs.of kcJ21 hT.1) (fun v_ h1 hq_ => ?_)
      obtain ⟨hv_, hT1, hF1⟩ := hq_; cases hv_
      refine x_goto (M := mJ21_fixAfterInsertion) (pc := 255) 5 dJ21_fixAfterInsertion_255 (by decide) ?_
      have hS2 := rotL_sh hS0 (by rw [hio]; exact nd)
      refine j_fixX h0 h1 tm d sz md nk ns K V (tPl c2 (tn p (tn gp s2 s1) (tn x a b))) _ _ _ _ ((rotL_io c2 gp p s2 s1 (tn x a b)).trans hio) hS2 (by rw [tRt_pl]; exact hT1) (hF.tr hF1) x hx (Or.inr ⟨p, hp, ?_, ?_⟩) _ Q hE
      · rw [tSh_pl] at hS2
        exact hS2.2.2.2.2.2.1
      · simp [va_up, hpg]
    refine x_aload_n (M := mJ21_fixAfterInsertion) (pc := 204) dJ21_fixAfterInsertion_204 rfl ?_
    refine x_aload_n (M := mJ21_fixAfterInsertion) (pc := 205) dJ21_fixAfterInsertion_205 rfl ?_
    refine x_S1 (M := mJ21_fixAfterInsertion) (pc := 206) (M' := mJ21_parentOf) q2577 kSJ21_parentOf dJ21_fixAfterInsertion_206 (j_parentOf h tm _ ns K V _ _ _ _ hT x (d - 1) hx (.ref p) (by rw [hPx]; rfl)) (fun v_ h hq_ => ?_)
    obtain ⟨hv_, rfl⟩ := hq_; cases hv_
    refine x_S1 (M := mJ21_fixAfterInsertion) (pc := 209) (M' := mJ21_leftOf) q2580 kSJ21_leftOf dJ21_fixAfterInsertion_209 (j_leftOf h tm _ ns K V _ _ _ _ hT p (d - 1) hp (va_rf (L p)) rfl) (fun v_ h hq_ => ?_)
    obtain ⟨hv_, rfl⟩ := hq_; cases hv_
    refine x_acmp_ne (M := mJ21_fixAfterInsertion) (pc := 212) (some x) (L p) 225 dJ21_fixAfterInsertion_212 (by decide) rfl rfl (fun hne => ?_) (fun heq => ?_)
    · cases b1 with
      | false =>
        have := hp1; simp at this; exact absurd this.1.symm hne
      | true =>
        exact rest true p x s1 a b h L R P hio hS0 hT hF hpg hx hp _
    · cases b1 with
      | false =>
        refine x_aload_n (M := mJ21_fixAfterInsertion) (pc := 215) dJ21_fixAfterInsertion_215 rfl ?_
        refine x_S1 (M := mJ21_fixAfterInsertion) (pc := 216) (M' := mJ21_parentOf) q2577 kSJ21_parentOf dJ21_fixAfterInsertion_216 (j_parentOf h tm _ ns K V _ _ _ _ hT x (d - 1) hx (.ref p) (by rw [hPx]; rfl)) (fun v_ h hq_ => ?_)
        obtain ⟨hv_, rfl⟩ := hq_; cases hv_
        refine x_astore1 (M := mJ21_fixAfterInsertion) (pc := 219) dJ21_fixAfterInsertion_219 ?_
        refine x_aload_n (M := mJ21_fixAfterInsertion) (pc := 220) dJ21_fixAfterInsertion_220 rfl ?_
        refine x_aload_n (M := mJ21_fixAfterInsertion) (pc := 221) dJ21_fixAfterInsertion_221 rfl ?_
        have hq1 : tPl ((false, p, s1) :: (true, gp, s2) :: c2) (tn x a b) = tPl ((true, gp, s2) :: c2) (tn p (tn x a b) (s1)) := rfl
        rw [hq1] at hio hS0
        refine x_V1 (M := mJ21_fixAfterInsertion) (pc := 222) (M' := mJ21_rotateRight) q2596 kVJ21_rotateRight dJ21_fixAfterInsertion_222 (j_rotR h tm (d - 1) sz md nk ns K V L R P C ((true, gp, s2) :: c2) p x s1 b a hio.symm hS0 nd hT) (xIs.of kcJ21 hT.1) (fun v_ h1 hq_ => ?_)
        obtain ⟨hv_, hT1, hF1⟩ := hq_; cases hv_
        have hS2 := rotR_sh hS0 (by rw [hio]; exact nd)
        exact rest true x p a b s1 h1 _ _ _ ((rotR_io ((true, gp, s2) :: c2) p x s1 b a).trans hio) hS2 hT1 (hF.tr hF1) hxg hp hx _
      | true =>
        have := hp1; simp at this; rw [this.2] at heq; exact absurd (tRt_mem heq.symm) hs1x
  · obtain ⟨ny, hny⟩ : ∃ ny, tRt s2 = some ny := by
      cases hz : tRt s2 with
      | none => rw [hz] at c59; exact absurd c59 (by simp [oC])
      | some ny => exact ⟨ny, rfl⟩
    have hyn : ny ∈ ns := hmem ny (by simp [hs2 ny hny])
    refine x_aload_n (M := mJ21_fixAfterInsertion) (pc := 169) dJ21_fixAfterInsertion_169 rfl ?_
    refine x_S1 (M := mJ21_fixAfterInsertion) (pc := 170) (M' := mJ21_parentOf) q2577 kSJ21_parentOf dJ21_fixAfterInsertion_170 (j_parentOf h tm _ ns K V _ _ _ _ hT x (d - 1) hx (.ref p) (by rw [hPx]; rfl)) (fun v_ h hq_ => ?_)
    obtain ⟨hv_, rfl⟩ := hq_; cases hv_
    refine x_iconst (M := mJ21_fixAfterInsertion) (pc := 173) (v := nI 1) dJ21_fixAfterInsertion_173 (by decide) ?_
    refine x_S2 (M := mJ21_fixAfterInsertion) (pc := 174) (M' := mJ21_setColor) q2589 kSJ21_setColor dJ21_fixAfterInsertion_174 (j_setColor h tm _ ns K V _ _ _ _ hT p (d - 1) hp true _ rfl) (fun v_ h hq_ => ?_)
    obtain ⟨hv_, hT_, hF_⟩ := hq_; cases hv_
    replace hF := hF.tr hF_
    replace hT := hT_
    clear hT_ hF_
    rw [hny]
    refine x_aload_n (M := mJ21_fixAfterInsertion) (pc := 177) dJ21_fixAfterInsertion_177 rfl ?_
    refine x_iconst (M := mJ21_fixAfterInsertion) (pc := 178) (v := nI 1) dJ21_fixAfterInsertion_178 (by decide) ?_
    refine x_S2 (M := mJ21_fixAfterInsertion) (pc := 179) (M' := mJ21_setColor) q2589 kSJ21_setColor dJ21_fixAfterInsertion_179 (j_setColor h tm _ ns K V _ _ _ _ hT ny (d - 1) hyn true _ rfl) (fun v_ h hq_ => ?_)
    obtain ⟨hv_, hT_, hF_⟩ := hq_; cases hv_
    replace hF := hF.tr hF_
    replace hT := hT_
    clear hT_ hF_
    refine x_aload_n (M := mJ21_fixAfterInsertion) (pc := 182) dJ21_fixAfterInsertion_182 rfl ?_
    refine x_S1 (M := mJ21_fixAfterInsertion) (pc := 183) (M' := mJ21_parentOf) q2577 kSJ21_parentOf dJ21_fixAfterInsertion_183 (j_parentOf h tm _ ns K V _ _ _ _ hT x (d - 1) hx (.ref p) (by rw [hPx]; rfl)) (fun v_ h hq_ => ?_)
    obtain ⟨hv_, rfl⟩ := hq_; cases hv_
    refine x_S1 (M := mJ21_fixAfterInsertion) (pc := 186) (M' := mJ21_parentOf) q2577 kSJ21_parentOf dJ21_fixAfterInsertion_186 (j_parentOf h tm _ ns K V _ _ _ _ hT p (d - 1) hp (.ref gp) (by rw [hPp]; rfl)) (fun v_ h hq_ => ?_)
    obtain ⟨hv_, rfl⟩ := hq_; cases hv_
    refine x_iconst (M := mJ21_fixAfterInsertion) (pc := 189) (v := nI 0) dJ21_fixAfterInsertion_189 (by decide) ?_
    refine x_S2 (M := mJ21_fixAfterInsertion) (pc := 190) (M' := mJ21_setColor) q2589 kSJ21_setColor dJ21_fixAfterInsertion_190 (j_setColor h tm _ ns K V _ _ _ _ hT gp (d - 1) hgp false _ rfl) (fun v_ h hq_ => ?_)
    obtain ⟨hv_, hT_, hF_⟩ := hq_; cases hv_
    replace hF := hF.tr hF_
    replace hT := hT_
    clear hT_ hF_
    refine x_aload_n (M := mJ21_fixAfterInsertion) (pc := 193) dJ21_fixAfterInsertion_193 rfl ?_
    refine x_S1 (M := mJ21_fixAfterInsertion) (pc := 194) (M' := mJ21_parentOf) q2577 kSJ21_parentOf dJ21_fixAfterInsertion_194 (j_parentOf h tm _ ns K V _ _ _ _ hT x (d - 1) hx (.ref p) (by rw [hPx]; rfl)) (fun v_ h hq_ => ?_)
    obtain ⟨hv_, rfl⟩ := hq_; cases hv_
    refine x_S1 (M := mJ21_fixAfterInsertion) (pc := 197) (M' := mJ21_parentOf) q2577 kSJ21_parentOf dJ21_fixAfterInsertion_197 (j_parentOf h tm _ ns K V _ _ _ _ hT p (d - 1) hp (.ref gp) (by rw [hPp]; rfl)) (fun v_ h hq_ => ?_)
    obtain ⟨hv_, rfl⟩ := hq_; cases hv_
    refine x_astore1 (M := mJ21_fixAfterInsertion) (pc := 200) dJ21_fixAfterInsertion_200 ?_
    refine x_goto (M := mJ21_fixAfterInsertion) (pc := 201) 255 dJ21_fixAfterInsertion_201 (by decide) ?_
    refine x_goto (M := mJ21_fixAfterInsertion) (pc := 255) 5 dJ21_fixAfterInsertion_255 (by decide) ?_
    refine hL h _ _ hT hF (fun r hr hrg => ?_)
    have h1 := hrt r hr hrg
    have h2 : r ≠ ny := fun z => h1.2 (by rw [z]; exact hs2 ny hny)
    simp [va_up, hrg, h1.1, h2, hB r hr]
theorem j_fixL (h0 : xH) (tm d : Nat) (hd : 2 ≤ d) (sz md : Int32) (nk : Option Nat) (ns : List Nat) (nd : ns.Nodup) (K : Nat → Nat) (V : Nat → Option Nat) (Q : xO → xH → Prop) (hE : ∀ h, FX h0 tm sz md nk ns K V h → Q (.inl none) h) : ∀ (k : Nat) (c : Cx), c.length ≤ k → ∀ (x : Nat) (a b : Tre) (L R P : Nat → Option Nat) (C : Nat → Bool) (h : xH) (a2 : Option Value), tIo (tPl c (tn x a b)) = ns → tSh L R P (tPl c (tn x a b)) none → TN h tm (tobj (cRt c (some x)) sz md nk) ns K V L R P C → TF tm ns h0 h → (∀ r, cRt c (some x) = some r → r ≠ x → C r = true) → X g l mJ21_fixAfterInsertion d 0 0 Q 5 [some (.ref tm), some (.ref x), a2] [] h 0 0 := by
  intro k
  induction k with
  | zero =>
    intro c hc x a b L R P C h a2 hio hS hT hF hB
    have : c = [] := List.eq_nil_of_length_eq_zero (by omega)
    subst this
    exact j_fixX h0 h tm d sz md nk ns K V (tn x a b) L R P C hio hS hT hF x (by rw [← hio]; simp [tPl, tIo]) (Or.inl rfl) a2 Q hE
  | succ k ih =>
    intro c hc x a b L R P C h a2 hio hS hT hF hB
    have hx : x ∈ ns := by rw [← hio, tIo_pl]; simp [tIo]
    cases c with
    | nil => exact j_fixX h0 h tm d sz md nk ns K V (tn x a b) L R P C hio hS hT hF x hx (Or.inl rfl) a2 Q hE
    | cons f c =>
      obtain ⟨b1, p, s1⟩ := f
      have hp : p ∈ ns := by rw [← hio, tIo_pl]; cases b1 <;> simp [cIoL, cIoR]
      have hS0 := hS
      rw [tSh_pl] at hS
      have hPx : P x = some p := hS.2.1
      have hxp : p ≠ x := by
        have nd' := nd
        rw [← hio, tIo_pl] at nd'
        cases b1 <;> simp only [cIoL, cIoR, tIo, List.nodup_append, List.nodup_cons, List.mem_append, List.mem_cons] at nd' <;> grind
      cases hCp : C p with
      | true => exact j_fixX h0 h tm d sz md nk ns K V _ L R P C hio hS0 (by rw [tRt_pl]; exact hT) hF x hx (Or.inr ⟨p, hp, hPx, hCp⟩) a2 Q hE
      | false =>
        cases c with
        | nil => exact absurd (hB p rfl hxp) (by rw [hCp]; decide)
        | cons f c2 =>
          obtain ⟨b2, gp, s2⟩ := f
          have hPp : P p = some gp := hS.1.1
          have hgp : gp ∈ ns := by rw [← hio, tIo_pl]; cases b1 <;> cases b2 <;> simp [cIoL, cIoR]
          have nd' := nd
          rw [← hio, tIo_pl] at nd'
          have hps2 : p ∉ tIo s2 := by
            cases b1 <;> cases b2 <;> simp only [cIoL, cIoR, tIo, List.nodup_append, List.nodup_cons, List.mem_append, List.mem_cons] at nd' <;> grind
          have hrx : ∀ r, cRt c2 (some gp) = some r → r ≠ x := by
            intro r hr
            by_cases e : r = gp
            · subst e; cases b1 <;> cases b2 <;> simp only [cIoL, cIoR, tIo, List.nodup_append, List.nodup_cons, List.mem_append, List.mem_cons] at nd' <;> grind
            · have := cRt_mem hr e
              cases b1 <;> cases b2 <;> simp only [cIoL, cIoR, tIo, List.nodup_append, List.nodup_cons, List.mem_append, List.mem_cons] at nd' <;> grind
          have hB' : ∀ r, cRt c2 (some gp) = some r → C r = true := fun r hr => hB r hr (hrx r hr)
          clear nd'
          have hrt : cRt ((b1, p, s1) :: (b2, gp, s2) :: c2) (some x) ≠ some x := fun z => hrx x z rfl
          have hLL : ∀ (h : xH) (C : Nat → Bool) (a2 : Option Value), TN h tm (tobj (cRt c2 (some gp)) sz md nk) ns K V L R P C → TF tm ns h0 h → (∀ r, cRt c2 (some gp) = some r → r ≠ gp → C r = true) → X g l mJ21_fixAfterInsertion d 0 0 Q 5 [some (.ref tm), some (.ref gp), a2] [] h 0 0 := by
            intro hx_ Cx_ ax_ hTx hFx hBx
            have hlen : c2.length ≤ k := by simp only [List.length_cons] at hc; omega
            cases b1 <;> cases b2 <;> exact ih c2 hlen gp _ _ L R P Cx_ hx_ ax_ hio hS0 hTx hFx hBx
          refine x_aload_n (M := mJ21_fixAfterInsertion) (pc := 5) dJ21_fixAfterInsertion_5 rfl ?_
          refine x_ifnullR (M := mJ21_fixAfterInsertion) (pc := 6) dJ21_fixAfterInsertion_6 ?_
          refine x_aload_n (M := mJ21_fixAfterInsertion) (pc := 9) dJ21_fixAfterInsertion_9 rfl ?_
          refine x_aload_n (M := mJ21_fixAfterInsertion) (pc := 10) dJ21_fixAfterInsertion_10 rfl ?_
          refine x_tgr (M := mJ21_fixAfterInsertion) (pc := 11) hT rfl q2087 dJ21_fixAfterInsertion_11 ?_
          refine x_acmp_eq (M := mJ21_fixAfterInsertion) (pc := 14) (some x) (cRt ((b1, p, s1) :: (b2, gp, s2) :: c2) (some x)) 258 dJ21_fixAfterInsertion_14 (by decide) rfl rfl (fun z => absurd z.symm hrt) (fun _ => ?_)
          refine x_aload_n (M := mJ21_fixAfterInsertion) (pc := 17) dJ21_fixAfterInsertion_17 rfl ?_
          refine x_tg4 (M := mJ21_fixAfterInsertion) (pc := 18) hT hx (v := .ref p) (by rw [hPx]; rfl) q2553 dJ21_fixAfterInsertion_18 ?_
          refine x_tg5 (M := mJ21_fixAfterInsertion) (pc := 21) hT hp q2555 dJ21_fixAfterInsertion_21 ?_
          rw [hCp]
          first | with_reducible refine x_ifB_ne (M := mJ21_fixAfterInsertion) (pc := 24) 258 dJ21_fixAfterInsertion_24 (by decide) (fun c24 => ?_) (fun c24 => ?_) | with_reducible refine x_if_neN (M := mJ21_fixAfterInsertion) (pc := 24) 258 dJ21_fixAfterInsertion_24 (by decide) (by omega) (fun c24 => ?_) (fun c24 => ?_) | refine x_if_ne (M := mJ21_fixAfterInsertion) (pc := 24) 258 dJ21_fixAfterInsertion_24 (by decide) (fun c24 => ?_) (fun c24 => ?_)
          · exact absurd c24 (by decide)
          · refine x_aload_n (M := mJ21_fixAfterInsertion) (pc := 27) dJ21_fixAfterInsertion_27 rfl ?_
            refine x_S1 (M := mJ21_fixAfterInsertion) (pc := 28) (M' := mJ21_parentOf) q2577 kSJ21_parentOf dJ21_fixAfterInsertion_28 (j_parentOf h tm _ ns K V _ _ _ _ hT x (d - 1) hx (.ref p) (by rw [hPx]; rfl)) (fun v_ h hq_ => ?_)
            obtain ⟨hv_, rfl⟩ := hq_; cases hv_
            refine x_aload_n (M := mJ21_fixAfterInsertion) (pc := 31) dJ21_fixAfterInsertion_31 rfl ?_
            refine x_S1 (M := mJ21_fixAfterInsertion) (pc := 32) (M' := mJ21_parentOf) q2577 kSJ21_parentOf dJ21_fixAfterInsertion_32 (j_parentOf h tm _ ns K V _ _ _ _ hT x (d - 1) hx (.ref p) (by rw [hPx]; rfl)) (fun v_ h hq_ => ?_)
            obtain ⟨hv_, rfl⟩ := hq_; cases hv_
            refine x_S1 (M := mJ21_fixAfterInsertion) (pc := 35) (M' := mJ21_parentOf) q2577 kSJ21_parentOf dJ21_fixAfterInsertion_35 (j_parentOf h tm _ ns K V _ _ _ _ hT p (d - 1) hp (.ref gp) (by rw [hPp]; rfl)) (fun v_ h hq_ => ?_)
            obtain ⟨hv_, rfl⟩ := hq_; cases hv_
            refine x_S1 (M := mJ21_fixAfterInsertion) (pc := 38) (M' := mJ21_leftOf) q2580 kSJ21_leftOf dJ21_fixAfterInsertion_38 (j_leftOf h tm _ ns K V _ _ _ _ hT gp (d - 1) hgp (va_rf (L gp)) rfl) (fun v_ h hq_ => ?_)
            obtain ⟨hv_, rfl⟩ := hq_; cases hv_
            cases b2 with
            | false =>
              have hFg : L gp = some p := by have := hS.1.2.2.2.2.1; simp at this; exact this.1
              refine x_acmp_ne (M := mJ21_fixAfterInsertion) (pc := 41) (some p) (L gp) 151 dJ21_fixAfterInsertion_41 (by decide) rfl rfl (fun z => absurd hFg.symm z) (fun _ => ?_)
              exact j_fixA h0 h tm d hd sz md nk ns nd K V L R P C b1 c2 x p gp a b s1 s2 hio hS0 hT hF hB' a2 Q hE hLL
            | true =>
              have hFg : L gp = tRt s2 := by have := hS.1.2.2.2.2.1; simp at this; exact this.2
              refine x_acmp_ne (M := mJ21_fixAfterInsertion) (pc := 41) (some p) (L gp) 151 dJ21_fixAfterInsertion_41 (by decide) rfl rfl (fun _ => ?_) (fun z => absurd (tRt_mem (by rw [← hFg]; exact z.symm)) hps2)
              exact j_fixB h0 h tm d hd sz md nk ns nd K V L R P C b1 c2 x p gp a b s1 s2 hio hS0 hT hF hB' a2 Q hE hLL
theorem j_fix (h : xH) (tm d : Nat) (hd : 2 ≤ d) (sz md : Int32) (nk : Option Nat) (ns : List Nat) (nd : ns.Nodup) (K : Nat → Nat) (V : Nat → Option Nat) (L R P : Nat → Option Nat) (C : Nat → Bool) (c : Cx) (x : Nat) (a b : Tre) (hio : tIo (tPl c (tn x a b)) = ns) (hS : tSh L R P (tPl c (tn x a b)) none) (hT : TN h tm (tobj (cRt c (some x)) sz md nk) ns K V L R P C) (hB : ∀ r, cRt c (some x) = some r → r ≠ x → C r = true) : Ct g l mJ21_fixAfterInsertion d 0 0 [.ref tm, .ref x] h (fun o h' => o = .inl none ∧ FX h tm sz md nk ns K V h') := by
  have hx : x ∈ ns := by rw [← hio, tIo_pl]; simp [tIo]
  refine Ct.of [some (.ref tm), some (.ref x), none] (by decide +kernel) rfl (Nat.le_of_ble_eq_true rfl) rfl rfl ?_
  refine x_aload_n (M := mJ21_fixAfterInsertion) (pc := 0) dJ21_fixAfterInsertion_0 rfl ?_
  refine x_iconst (M := mJ21_fixAfterInsertion) (pc := 1) (v := nI 0) dJ21_fixAfterInsertion_1 (by decide) ?_
  refine x_tp5 (M := mJ21_fixAfterInsertion) (pc := 2) false rfl hT TF.rf hx q2555 dJ21_fixAfterInsertion_2 (fun h1 hT hF => ?_)
  exact j_fixL h tm d hd sz md nk ns nd K V _ (fun h' hq => ⟨rfl, hq⟩) c.length c (Nat.le_refl _) x a b L R P _ h1 _ hio hS hT hF (fun r hr hne => by simp [va_up, hne]; exact hB r hr hne)
end JDKTM2

section PUREJ
set_option maxRecDepth 100000
theorem fstN_at (P : Nat → Bool) : ∀ q k, fstN P q k < k + q → P (fstN P q k) = true
  | 0, k => fun h => absurd h (Nat.lt_irrefl _)
  | q + 1, k => fun h => by
    unfold fstN at h ⊢
    by_cases hp : P k = true
    · rw [if_pos hp]; exact hp
    · rw [if_neg hp] at h ⊢; exact fstN_at P q (k + 1) (by omega)
theorem p_whole_le {O : Nat → Nat} {li all f ln v : Nat} (hf : f ≤ all) (h : p_whole O li all f ln = some v) : v + ln ≤ all := by
  unfold p_whole at h
  split at h
  · next z => cases h; exact z.1
  · split at h
    · next z =>
      cases h
      have := fstN_at (p_whC O li all f ln) (all - f) f (by show p_whF O li all f ln < _; omega)
      unfold p_whC at this
      simp only [Bool.and_eq_true, decide_eq_true_eq] at this
      exact this.2.1
    · cases h
def zOL (s : Row) : Nat → List Nat
  | 0 => []
  | n + 1 => if zHid s n then zOL s n else zOL s n ++ [n]
theorem zOL_len (s : Row) : ∀ n, (zOL s n).length ≤ n
  | 0 => Nat.le_refl 0
  | n + 1 => by
    have := zOL_len s n
    unfold zOL; split
    · omega
    · rw [List.length_append]; show _ + 1 ≤ _; omega
theorem zOL_lt (s : Row) : ∀ n, ∀ x ∈ zOL s n, x < n
  | 0 => fun x h => by cases h
  | n + 1 => fun x h => by
    unfold zOL at h; split at h
    · have := zOL_lt s n x h; omega
    · rcases List.mem_append.mp h with h | h
      · have := zOL_lt s n x h; omega
      · rw [List.mem_singleton] at h; omega
def zO (s : Row) (k : Nat) : Nat := (zOL s (2 * zN16 s)).getD k 0
def zOm (s : Row) : Nat := (zOL s (2 * zN16 s)).length
theorem getD_lt {L : List Nat} {b : Nat} (hb : 0 < b) (h : ∀ x ∈ L, x < b) (k : Nat) : L.getD k 0 < b := by
  rw [List.getD_eq_getElem?_getD]
  cases e : L[k]? with
  | none => exact hb
  | some x => exact h x (List.mem_of_getElem? e)
theorem zO_lt {s : Row} (h : zN16 s ≤ 16) (k : Nat) : zO s k < 32 := getD_lt (by omega) (fun x hx => by have := zOL_lt s _ x hx; omega) k
theorem zOm_le {s : Row} (h : zN16 s ≤ 16) : zOm s ≤ 32 := by have := zOL_len s (2 * zN16 s); unfold zOm; omega
def p_pick (s : Row) (dn : Nat) : Nat → Option Nat
  | 0 => none
  | k + 1 => match dn.testBit k, p_pick s dn k with
    | true, b => b
    | false, none => some k
    | false, some b => if p_ahead s k b then some k else some b
theorem p_pick_lt {s : Row} {dn : Nat} : ∀ n b, p_pick s dn n = some b → b < n ∧ dn.testBit b = false
  | 0 => fun b h => by cases h
  | n + 1 => fun b h => by
    unfold p_pick at h
    split at h
    · have := p_pick_lt n b h; exact ⟨by omega, this.2⟩
    · next e _ => cases h; exact ⟨Nat.lt_succ_self _, e⟩
    · next e e2 =>
      split at h
      · cases h; exact ⟨Nat.lt_succ_self _, e⟩
      · cases h; have := p_pick_lt n _ e2; exact ⟨by omega, this.2⟩
theorem p_pick_none {s : Row} {dn : Nat} : ∀ n, p_pick s dn n = none → ∀ i, i < n → dn.testBit i = true
  | 0 => fun _ i hi => absurd hi (Nat.not_lt_zero _)
  | n + 1 => fun h i hi => by
    unfold p_pick at h
    split at h
    · next e =>
      by_cases hin : i = n
      · rw [hin]; exact e
      · exact p_pick_none n h i (by omega)
    · cases h
    · split at h <;> cases h
def p_at (s : Row) (O : Nat → Nat) (om f b : Nat) : Option Nat := if zN s (41 + 4 * b) = 1 then p_whole O (zN s 11) (om * zN s 11) f (zN s (40 + 4 * b)) else if f + zN s (40 + 4 * b) ≤ om * zN s 11 then some f else none
theorem p_at_le {s : Row} {O : Nat → Nat} {om f b v : Nat} (hf : f ≤ om * zN s 11) (h : p_at s O om f b = some v) : v + zN s (40 + 4 * b) ≤ om * zN s 11 := by
  unfold p_at at h
  split at h
  · exact p_whole_le hf h
  · split at h
    · cases h; assumption
    · cases h
def p_nx (f ln : Nat) (r : Option Nat) : Nat := match r with
  | none => f
  | some v => v + ln
abbrev LNS : Type := Nat × Nat × (Nat → Option Nat)
def p_lnS (s : Row) (O : Nat → Nat) (om : Nat) (t : LNS) : LNS := match p_pick s t.1 (zN s 37) with
  | none => t
  | some b => (t.1 ||| 2 ^ b, p_nx t.2.1 (zN s (40 + 4 * b)) (p_at s O om t.2.1 b), fun j => if j = b then p_at s O om t.2.1 b else t.2.2 j)
def p_ln (s : Row) (O : Nat → Nat) (om : Nat) : Nat → LNS
  | 0 => (0, 0, fun _ => none)
  | k + 1 => p_lnS s O om (p_ln s O om k)
def p_cB (dn n : Nat) : Nat := smN (fun i => if dn.testBit i then 1 else 0) n
theorem p_cB_full {dn : Nat} : ∀ n, (∀ i, i < n → dn.testBit i = true) → p_cB dn n = n
  | 0, _ => rfl
  | n + 1, h => by
    have := p_cB_full n (fun i hi => h i (by omega))
    unfold p_cB at this ⊢
    simp only [smN, this, h n (by omega), if_true]
theorem p_cB_le (dn n : Nat) : p_cB dn n ≤ n := by have := smN_le (f := fun i => if dn.testBit i then 1 else 0) (k := 1) (fun i => by split <;> omega) n; unfold p_cB; omega
theorem p_cB_all {dn : Nat} : ∀ n, p_cB dn n = n → ∀ i, i < n → dn.testBit i = true
  | 0, _ => fun i hi => absurd hi (Nat.not_lt_zero _)
  | n + 1, h => fun i hi => by
    have hl := p_cB_le dn n
    have h' : p_cB dn n + (if dn.testBit n then 1 else 0) = n + 1 := h
    by_cases hb : dn.testBit n = true
    · rw [if_pos hb] at h'
      by_cases hin : i = n
      · rw [hin]; exact hb
      · exact p_cB_all n (by omega) i (by omega)
    · rw [if_neg hb] at h'; omega
theorem or_bit (dn b i : Nat) : (dn ||| 2 ^ b).testBit i = (dn.testBit i || decide (b = i)) := by rw [Nat.testBit_or, Nat.testBit_two_pow]
theorem p_cB_or {dn b : Nat} (hb : dn.testBit b = false) : ∀ n, p_cB (dn ||| 2 ^ b) n = p_cB dn n + (if b < n then 1 else 0)
  | 0 => rfl
  | n + 1 => by
    have ih := p_cB_or hb n
    have e1 : p_cB (dn ||| 2 ^ b) (n + 1) = p_cB (dn ||| 2 ^ b) n + (if (dn ||| 2 ^ b).testBit n then 1 else 0) := rfl
    have e2 : p_cB dn (n + 1) = p_cB dn n + (if dn.testBit n then 1 else 0) := rfl
    rw [e1, e2, ih, or_bit]
    by_cases hbn : b = n
    · subst hbn; rw [hb]; simp
    · rw [decide_eq_false hbn, Bool.or_false]
      by_cases hlt : b < n
      · rw [if_pos hlt, if_pos (show b < n + 1 by omega)]; omega
      · rw [if_neg hlt, if_neg (show ¬ b < n + 1 by omega)]; omega
/-- what holds after k rounds -/
theorem p_ln_inv (s : Row) (O : Nat → Nat) (om : Nat) (hnn : zN s 37 ≤ 12) : ∀ k, k ≤ zN s 37 → p_cB (p_ln s O om k).1 (zN s 37) = k ∧ (p_ln s O om k).1 < 2 ^ 12 ∧ (p_ln s O om k).2.1 ≤ om * zN s 11
  | 0, _ => ⟨by
      have : ∀ n, p_cB 0 n = 0 := fun n => by
        induction n with
        | zero => rfl
        | succ n ih => exact (show p_cB 0 n + (if (0 : Nat).testBit n then 1 else 0) = 0 by rw [ih, Nat.zero_testBit]; rfl)
      exact this _, by show 0 < _; decide, Nat.zero_le _⟩
  | k + 1, hk => by
    obtain ⟨h1, h2, h3⟩ := p_ln_inv s O om hnn k (by omega)
    show p_cB (p_lnS s O om (p_ln s O om k)).1 _ = _ ∧ (p_lnS s O om (p_ln s O om k)).1 < _ ∧ (p_lnS s O om (p_ln s O om k)).2.1 ≤ _
    unfold p_lnS
    split
    · next e => have := p_cB_full _ (p_pick_none _ e); omega
    · next b e =>
      obtain ⟨e1, e2⟩ := p_pick_lt _ _ e
      refine ⟨?_, Nat.or_lt_two_pow h2 (Nat.pow_lt_pow_right (by omega) (by omega)), ?_⟩
      · rw [p_cB_or e2, if_pos e1, h1]
      · show p_nx _ _ _ ≤ _
        cases hr : p_at s O om (p_ln s O om k).2.1 b with
        | none => exact h3
        | some v => exact p_at_le h3 hr
def zFL (s : Row) : Nat → Option Nat := (p_ln s (zO s) (zOm s) (zN s 37)).2.2
end PUREJ
section MODELJ
set_option maxRecDepth 100000
variable {g : xG} {l : Launch} {m : Nat} {A : Nat → Nat} {I : Nat → Int32} {B : Nat → Nat → Int32} {wd : Int64}
theorem upd_upd (f : Nat → Int32) (k : Nat) (x y : Int32) : upd (upd f k x) k y = upd f k y := by funext j; unfold upd; split <;> rfl
theorem upd_s (f : Nat → Int32) (k : Nat) (x : Int32) : upd f k x k = x := by unfold upd; rw [if_pos rfl]
theorem upd_n (f : Nat → Int32) {k j : Nat} (x : Int32) (h : j ≠ k) : upd f k x j = f j := by unfold upd; rw [if_neg h]
theorem zOL_t {s : Row} {k : Nat} (h : zHid s k = true) : zOL s (k + 1) = zOL s k := by rw [zOL, if_pos h]
theorem zOL_f {s : Row} {k : Nat} (h : zHid s k = false) : zOL s (k + 1) = zOL s k ++ [k] := by rw [zOL, if_neg (by rw [h]; decide)]
theorem getD_snoc {L : List Nat} {k : Nat} {T : Nat → Int32} (hT : ∀ t, t < L.length → T t = nI (L.getD t 0)) (t : Nat) (ht : t < (L ++ [k]).length) : upd T L.length (nI k) t = nI ((L ++ [k]).getD t 0) := by
  rw [List.length_append] at ht
  have ht' : t < L.length + 1 := ht
  unfold upd
  by_cases e : t = L.length
  · rw [if_pos e, e]; simp
  · rw [if_neg e, hT t (by omega)]; simp [List.getElem?_append_left (show t < L.length by omega)]
theorem m_layNotes_l1 (d : Nat) (hd : 4 ≤ d) (s : Row) (hB : BW I B s (zLy s)) (hW : WF s) (a2 a3 a4 a5 a6 : Option Value) (h0 : xH) (Q : xO → xH → Prop)
    (hE : ∀ h T, MR g h m A (upd I 28 (nI (zOm s))) (va_up B 29 T) wd → MF m A h0 h → (∀ t, t < zOm s → T t = nI (zO s t)) → X g l mX3_layNotes d 0 0 Q 51 [some (.ref m), some (.int (nI (2 * zN16 s))), a2, a3, a4, a5, a6] [] h 0 0) :
    ∀ q k, k + q = 2 * zN16 s → ∀ h T, MR g h m A (upd I 28 (nI (zOL s k).length)) (va_up B 29 T) wd → MF m A h0 h → (∀ t, t < (zOL s k).length → T t = nI ((zOL s k).getD t 0)) → X g l mX3_layNotes d 0 0 Q 7 [some (.ref m), some (.int (nI k)), a2, a3, a4, a5, a6] [] h 0 0 := by
  have b2 := hB.1.2.2.2.2.1
  intro q
  induction q with
  | zero =>
    intro k hk h T hM hF hT
    have : k = 2 * zN16 s := by omega
    subst this
    refine x_iload_n (M := mX3_layNotes) (pc := 7) dX3_layNotes_7 rfl ?_
    refine x_iconst (M := mX3_layNotes) (pc := 8) (v := nI 2) dX3_layNotes_8 (by decide) ?_
    refine x_aload_n (M := mX3_layNotes) (pc := 9) dX3_layNotes_9 rfl ?_
    refine x_get (M := mX3_layNotes) (pc := 10) kcX3 9 rfl q2844 dX3_layNotes_10 hM.1 rfl ?_
    refine x_val (M := mX3_layNotes) (pc := 13) ((upd_n I _ (by decide : (9 : Nat) ≠ 28)).trans hB.1.1) ?_
    first | with_reducible refine x_imulN (M := mX3_layNotes) (pc := 13) dX3_layNotes_13 ?_ | refine x_imul (M := mX3_layNotes) (pc := 13) dX3_layNotes_13 ?_
    first | with_reducible refine x_icmp_geN (M := mX3_layNotes) (pc := 14) 51 dX3_layNotes_14 (by decide) (by omega) (by omega) (fun c1 => ?_) (fun c1 => ?_) | refine x_icmp_ge (M := mX3_layNotes) (pc := 14) 51 dX3_layNotes_14 (by decide) (fun c1 => ?_) (fun c1 => ?_)
    · exact hE h T hM hF hT
    · omega
  | succ q ih =>
    intro k hk h T hM hF hT
    have hlen := zOL_len s k
    have hbk : BK (upd I 28 (nI (zOL s k).length)) (va_up B 29 T) (zN16 s) (zWi s) (zLy s) := (hB.1.up 29 (by omega) T).moved (upd_n I _ (by decide : (9 : Nat) ≠ 28)) rfl (fun _ _ _ => rfl)
    have hs7 : va_up B 29 T 0 7 = nI (zN s 7) := by rw [va_up_n _ _ (by decide : (0 : Nat) ≠ 29), hB.2]; exact hW.2.1.1
    have hs8 : va_up B 29 T 0 8 = nI (zN s 8) := by rw [va_up_n _ _ (by decide : (0 : Nat) ≠ 29), hB.2]; exact hW.2.2.1.1
    refine x_iload_n (M := mX3_layNotes) (pc := 7) dX3_layNotes_7 rfl ?_
    refine x_iconst (M := mX3_layNotes) (pc := 8) (v := nI 2) dX3_layNotes_8 (by decide) ?_
    refine x_aload_n (M := mX3_layNotes) (pc := 9) dX3_layNotes_9 rfl ?_
    refine x_get (M := mX3_layNotes) (pc := 10) kcX3 9 rfl q2844 dX3_layNotes_10 hM.1 rfl ?_
    refine x_val (M := mX3_layNotes) (pc := 13) ((upd_n I _ (by decide : (9 : Nat) ≠ 28)).trans hB.1.1) ?_
    first | with_reducible refine x_imulN (M := mX3_layNotes) (pc := 13) dX3_layNotes_13 ?_ | refine x_imul (M := mX3_layNotes) (pc := 13) dX3_layNotes_13 ?_
    first | with_reducible refine x_icmp_geN (M := mX3_layNotes) (pc := 14) 51 dX3_layNotes_14 (by decide) (by omega) (by omega) (fun c1 => ?_) (fun c1 => ?_) | refine x_icmp_ge (M := mX3_layNotes) (pc := 14) 51 dX3_layNotes_14 (by decide) (fun c1 => ?_) (fun c1 => ?_)
    · omega
    have hz : decide (p_shut (zN s 8) (p_se (zN s 7)) (zWi s) (zLy s) (zN16 s) ((k + 1) / 2) ≠ 0) = zHid s k := rfl
    refine x_aload_n (M := mX3_layNotes) (pc := 17) dX3_layNotes_17 rfl ?_
    refine x_iload_n (M := mX3_layNotes) (pc := 18) dX3_layNotes_18 rfl ?_
    refine x_V1 (M := mX3_layNotes) (pc := 19) (M' := mX3_isHidden) q3201 kVX3_isHidden dX3_layNotes_19 (m_isHidden (d - 1) _ _ (zLy s) hbk (zN s 7) hs7 hW.2.1.2 (zN s 8) hs8 hW.2.2.1.2 k (by omega) (by omega) h hM) (hM.is) (fun v_ h hq_ => ?_)
    obtain ⟨hv_, rfl⟩ := hq_; cases hv_
    first | with_reducible refine x_ifB_ne (M := mX3_layNotes) (pc := 22) 45 dX3_layNotes_22 (by decide) (fun c22 => ?_) (fun c22 => ?_) | with_reducible refine x_if_neN (M := mX3_layNotes) (pc := 22) 45 dX3_layNotes_22 (by decide) (by omega) (fun c22 => ?_) (fun c22 => ?_) | refine x_if_ne (M := mX3_layNotes) (pc := 22) 45 dX3_layNotes_22 (by decide) (fun c22 => ?_) (fun c22 => ?_)
    · first | refine x_iinc1N (M := mX3_layNotes) (pc := 45) (c := 1) dX3_layNotes_45 oI1 ?_ | refine x_iinc1 (M := mX3_layNotes) (pc := 45) (c := 1) dX3_layNotes_45 (by decide) ?_
      refine x_goto (M := mX3_layNotes) (pc := 48) 7 dX3_layNotes_48 (by decide) ?_
      first | exact ih (k + 1) (by omega) h T (by rw [zOL_t c22]; exact hM) hF (by rw [zOL_t c22]; exact hT) | exact ih (k + 1) (by omega) h (upd T (zOL s k).length (nI k)) (by rw [zOL_f c22, List.length_append]; rw [upd_upd] at hM; exact hM.up2 (fun t => by rw [va_up_s])) hF (by rw [zOL_f c22]; exact getD_snoc hT)
    · refine x_aload_n (M := mX3_layNotes) (pc := 25) dX3_layNotes_25 rfl ?_
      refine x_get (M := mX3_layNotes) (pc := 26) kcX3 29 rfl q2864 dX3_layNotes_26 hM.1 rfl ?_
      refine x_aload_n (M := mX3_layNotes) (pc := 29) dX3_layNotes_29 rfl ?_
      refine x_get (M := mX3_layNotes) (pc := 30) kcX3 28 rfl q2863 dX3_layNotes_30 hM.1 rfl ?_
      refine x_val (M := mX3_layNotes) (pc := 33) (upd_s I 28 (nI (zOL s k).length)) ?_
      refine x_iload_n (M := mX3_layNotes) (pc := 33) dX3_layNotes_33 rfl ?_
      refine xm_iast (M := mX3_layNotes) (pc := 34) hM hF dX3_layNotes_34 (by decide) (by first | decide | (simp only [mSz] <;> omega)) (fun h hM hF => ?_)
      refine x_aload_n (M := mX3_layNotes) (pc := 35) dX3_layNotes_35 rfl ?_
      refine x_dup (M := mX3_layNotes) (pc := 36) dX3_layNotes_36 ?_
      refine x_get (M := mX3_layNotes) (pc := 37) kcX3 28 rfl q2863 dX3_layNotes_37 hM.1 rfl ?_
      refine x_val (M := mX3_layNotes) (pc := 40) (upd_s I 28 (nI (zOL s k).length)) ?_
      refine x_iconst (M := mX3_layNotes) (pc := 40) (v := nI 1) dX3_layNotes_40 (by decide) ?_
      first | with_reducible refine x_iaddN (M := mX3_layNotes) (pc := 41) dX3_layNotes_41 ?_ | refine x_iadd (M := mX3_layNotes) (pc := 41) dX3_layNotes_41 ?_
      refine xm_put28 (M := mX3_layNotes) (pc := 42) hM hF q2863 dX3_layNotes_42 (fun h hM hF => ?_)
      first | refine x_iinc1N (M := mX3_layNotes) (pc := 45) (c := 1) dX3_layNotes_45 oI1 ?_ | refine x_iinc1 (M := mX3_layNotes) (pc := 45) (c := 1) dX3_layNotes_45 (by decide) ?_
      refine x_goto (M := mX3_layNotes) (pc := 48) 7 dX3_layNotes_48 (by decide) ?_
      first | exact ih (k + 1) (by omega) h T (by rw [zOL_t c22]; exact hM) hF (by rw [zOL_t c22]; exact hT) | exact ih (k + 1) (by omega) h (upd T (zOL s k).length (nI k)) (by rw [zOL_f c22, List.length_append]; rw [upd_upd] at hM; exact hM.up2 (fun t => by rw [va_up_s])) hF (by rw [zOL_f c22]; exact getD_snoc hT)
theorem m_layNotes_l2 (d : Nat) (hd : 4 ≤ d) (s : Row) (hW : WF s) (hB0 : B 0 = s) (dn b : Nat) (hdn : dn < 2 ^ 12) (hb : p_pick s dn (zN s 37) = some b) (x2 x3 : Int32) (a6 : Option Value) (h : xH) (hM : MR g h m A I B wd) (Q : xO → xH → Prop)
    (hE : X g l mX3_layNotes d 0 0 Q 126 [some (.ref m), some (.int (nI dn)), some (.int x2), some (.int x3), some (.int (nI b)), some (.int (nI (zN s 37))), a6] [] h 0 0) :
    ∀ q j, j + q = zN s 37 → X g l mX3_layNotes d 0 0 Q 74 [some (.ref m), some (.int (nI dn)), some (.int x2), some (.int x3), some (.int (eI (p_pick s dn j))), some (.int (nI j)), a6] [] h 0 0 := by
  obtain ⟨h37, h37b⟩ := hW.2.2.2.2.2.2.2.2.1
  intro q
  induction q with
  | zero =>
    intro j hj
    have : j = zN s 37 := by omega
    subst this
    refine x_iload (M := mX3_layNotes) (pc := 74) dX3_layNotes_74 rfl ?_
    refine x_aload_n (M := mX3_layNotes) (pc := 76) dX3_layNotes_76 rfl ?_
    refine x_get (M := mX3_layNotes) (pc := 77) kcX3 0 rfl q2835 dX3_layNotes_77 hM.1 rfl ?_
    refine x_bipush (M := mX3_layNotes) (pc := 80) (v := nI 37) dX3_layNotes_80 (by decide) ?_
    refine xm_ialdV (M := mX3_layNotes) (pc := 82) hM dX3_layNotes_82 ((by rw [hB0]; exact h37 : _ = nI (zN s 37))) (by decide) (by first | decide | (simp only [mSz] <;> omega)) ?_
    first | with_reducible refine x_icmp_geN (M := mX3_layNotes) (pc := 83) 126 dX3_layNotes_83 (by decide) (by omega) (by omega) (fun c1 => ?_) (fun c1 => ?_) | refine x_icmp_ge (M := mX3_layNotes) (pc := 83) 126 dX3_layNotes_83 (by decide) (fun c1 => ?_) (fun c1 => ?_)
    · rw [hb]; exact hE
    · omega
  | succ q ih =>
    intro j hj
    refine x_iload (M := mX3_layNotes) (pc := 74) dX3_layNotes_74 rfl ?_
    refine x_aload_n (M := mX3_layNotes) (pc := 76) dX3_layNotes_76 rfl ?_
    refine x_get (M := mX3_layNotes) (pc := 77) kcX3 0 rfl q2835 dX3_layNotes_77 hM.1 rfl ?_
    refine x_bipush (M := mX3_layNotes) (pc := 80) (v := nI 37) dX3_layNotes_80 (by decide) ?_
    refine xm_ialdV (M := mX3_layNotes) (pc := 82) hM dX3_layNotes_82 ((by rw [hB0]; exact h37 : _ = nI (zN s 37))) (by decide) (by first | decide | (simp only [mSz] <;> omega)) ?_
    first | with_reducible refine x_icmp_geN (M := mX3_layNotes) (pc := 83) 126 dX3_layNotes_83 (by decide) (by omega) (by omega) (fun c1 => ?_) (fun c1 => ?_) | refine x_icmp_ge (M := mX3_layNotes) (pc := 83) 126 dX3_layNotes_83 (by decide) (fun c1 => ?_) (fun c1 => ?_)
    · omega
    cases hp : p_pick s dn j with
    | none =>
      refine x_joinV 118 (eI (p_pick s dn (j + 1))) (fun J => ?_) ?_
      · refine x_iload_n (M := mX3_layNotes) (pc := 86) dX3_layNotes_86 rfl ?_
        refine x_iload (M := mX3_layNotes) (pc := 87) dX3_layNotes_87 rfl ?_
        refine x_S2 (M := mX3_layNotes) (pc := 89) (M' := mX3_has) q3027 kSX3_has dX3_layNotes_89 (m_has_n h dn j (by omega) (by omega) (d - 1)) (fun v_ h hq_ => ?_)
        obtain ⟨hv_, rfl⟩ := hq_; cases hv_
        first | with_reducible refine x_ifB_ne (M := mX3_layNotes) (pc := 92) 116 dX3_layNotes_92 (by decide) (fun c92 => ?_) (fun c92 => ?_) | with_reducible refine x_if_neN (M := mX3_layNotes) (pc := 92) 116 dX3_layNotes_92 (by decide) (by omega) (fun c92 => ?_) (fun c92 => ?_) | refine x_if_ne (M := mX3_layNotes) (pc := 92) 116 dX3_layNotes_92 (by decide) (fun c92 => ?_) (fun c92 => ?_)
        · refine x_iload (M := mX3_layNotes) (pc := 116) dX3_layNotes_116 rfl ?_
          first | exact J _ (by simp only [p_pick, c92, hp]; rfl) | exact J _ (by simp only [p_pick, c92, hp])
        · refine x_iload (M := mX3_layNotes) (pc := 95) dX3_layNotes_95 rfl ?_
          refine x_val (M := mX3_layNotes) (pc := 97) ((show eI none = -1 from rfl)) ?_
          first | refine x_if_lt (M := mX3_layNotes) (pc := 97) 111 dX3_layNotes_97 (by decide) (fun c97 => ?_) (fun c97 => ?_)
          · refine x_iload (M := mX3_layNotes) (pc := 111) dX3_layNotes_111 rfl ?_
            refine x_goto (M := mX3_layNotes) (pc := 113) 118 dX3_layNotes_113 (by decide) ?_
            first | exact J _ (by simp only [p_pick, c92, hp]; rfl) | exact J _ (by simp only [p_pick, c92, hp])
          · exact absurd (by decide) c97
      refine x_istore4 (M := mX3_layNotes) (pc := 118) dX3_layNotes_118 ?_
      first | refine x_iinc5N (M := mX3_layNotes) (pc := 120) (c := 1) dX3_layNotes_120 oI1 ?_ | refine x_iinc5 (M := mX3_layNotes) (pc := 120) (c := 1) dX3_layNotes_120 (by decide) ?_
      refine x_goto (M := mX3_layNotes) (pc := 123) 74 dX3_layNotes_123 (by decide) ?_
      exact ih (j + 1) (by omega)
    | some e =>
      obtain ⟨p1, p2⟩ := p_pick_lt _ _ hp
      refine x_joinV 118 (eI (p_pick s dn (j + 1))) (fun J => ?_) ?_
      · refine x_iload_n (M := mX3_layNotes) (pc := 86) dX3_layNotes_86 rfl ?_
        refine x_iload (M := mX3_layNotes) (pc := 87) dX3_layNotes_87 rfl ?_
        refine x_S2 (M := mX3_layNotes) (pc := 89) (M' := mX3_has) q3027 kSX3_has dX3_layNotes_89 (m_has_n h dn j (by omega) (by omega) (d - 1)) (fun v_ h hq_ => ?_)
        obtain ⟨hv_, rfl⟩ := hq_; cases hv_
        first | with_reducible refine x_ifB_ne (M := mX3_layNotes) (pc := 92) 116 dX3_layNotes_92 (by decide) (fun c92 => ?_) (fun c92 => ?_) | with_reducible refine x_if_neN (M := mX3_layNotes) (pc := 92) 116 dX3_layNotes_92 (by decide) (by omega) (fun c92 => ?_) (fun c92 => ?_) | refine x_if_ne (M := mX3_layNotes) (pc := 92) 116 dX3_layNotes_92 (by decide) (fun c92 => ?_) (fun c92 => ?_)
        · refine x_iload (M := mX3_layNotes) (pc := 116) dX3_layNotes_116 rfl ?_
          first | exact J _ (by simp only [p_pick, c92, hp]; rw [if_pos c108]; rfl) | exact J _ (by simp only [p_pick, c92, hp]; rw [if_pos c108]) | exact J _ (by simp only [p_pick, c92, hp]; rw [if_neg (by rw [c108]; decide)]; rfl) | exact J _ (by simp only [p_pick, c92, hp]; rw [if_neg (by rw [c108]; decide)]) | exact J _ (by simp only [p_pick, c92, hp]; rfl) | exact J _ (by simp only [p_pick, c92, hp])
        · refine x_iload (M := mX3_layNotes) (pc := 95) dX3_layNotes_95 rfl ?_
          refine x_val (M := mX3_layNotes) (pc := 97) ((show eI (some e) = nI e from rfl)) ?_
          first | refine x_if_lt (M := mX3_layNotes) (pc := 97) 111 dX3_layNotes_97 (by decide) (fun c97 => ?_) (fun c97 => ?_)
          · exact absurd c97 (nI_pos (by omega))
          · refine x_aload_n (M := mX3_layNotes) (pc := 100) dX3_layNotes_100 rfl ?_
            refine x_iload (M := mX3_layNotes) (pc := 101) dX3_layNotes_101 rfl ?_
            refine x_iload (M := mX3_layNotes) (pc := 103) dX3_layNotes_103 rfl ?_
            refine x_val (M := mX3_layNotes) (pc := 105) ((show eI (some e) = nI e from rfl)) ?_
            refine x_V2 (M := mX3_layNotes) (pc := 105) (M' := mX3_comesAhead) q3229 kVX3_comesAhead dX3_layNotes_105 (m_comesAhead (d - 1) s hW hB0 j e (by omega) (by omega) h hM) (hM.is) (fun v_ h hq_ => ?_)
            obtain ⟨hv_, rfl⟩ := hq_; cases hv_
            first | with_reducible refine x_ifB_eq (M := mX3_layNotes) (pc := 108) 116 dX3_layNotes_108 (by decide) (fun c108 => ?_) (fun c108 => ?_) | with_reducible refine x_if_eqN (M := mX3_layNotes) (pc := 108) 116 dX3_layNotes_108 (by decide) (by omega) (fun c108 => ?_) (fun c108 => ?_) | refine x_if_eq (M := mX3_layNotes) (pc := 108) 116 dX3_layNotes_108 (by decide) (fun c108 => ?_) (fun c108 => ?_)
            · refine x_iload (M := mX3_layNotes) (pc := 116) dX3_layNotes_116 rfl ?_
              first | exact J _ (by simp only [p_pick, c92, hp]; rw [if_pos c108]; rfl) | exact J _ (by simp only [p_pick, c92, hp]; rw [if_pos c108]) | exact J _ (by simp only [p_pick, c92, hp]; rw [if_neg (by rw [c108]; decide)]; rfl) | exact J _ (by simp only [p_pick, c92, hp]; rw [if_neg (by rw [c108]; decide)]) | exact J _ (by simp only [p_pick, c92, hp]; rfl) | exact J _ (by simp only [p_pick, c92, hp])
            · refine x_iload (M := mX3_layNotes) (pc := 111) dX3_layNotes_111 rfl ?_
              refine x_goto (M := mX3_layNotes) (pc := 113) 118 dX3_layNotes_113 (by decide) ?_
              first | exact J _ (by simp only [p_pick, c92, hp]; rw [if_pos c108]; rfl) | exact J _ (by simp only [p_pick, c92, hp]; rw [if_pos c108]) | exact J _ (by simp only [p_pick, c92, hp]; rw [if_neg (by rw [c108]; decide)]; rfl) | exact J _ (by simp only [p_pick, c92, hp]; rw [if_neg (by rw [c108]; decide)]) | exact J _ (by simp only [p_pick, c92, hp]; rfl) | exact J _ (by simp only [p_pick, c92, hp])
      refine x_istore4 (M := mX3_layNotes) (pc := 118) dX3_layNotes_118 ?_
      first | refine x_iinc5N (M := mX3_layNotes) (pc := 120) (c := 1) dX3_layNotes_120 oI1 ?_ | refine x_iinc5 (M := mX3_layNotes) (pc := 120) (c := 1) dX3_layNotes_120 (by decide) ?_
      refine x_goto (M := mX3_layNotes) (pc := 123) 74 dX3_layNotes_123 (by decide) ?_
      exact ih (j + 1) (by omega)
theorem NT.up {s : Row} {O : Nat → Nat} {om : Nat} (hN : NT I B s O om) (F : Nat → Int32) : NT I (va_up B 30 F) s O om :=
  ⟨hN.1, fun k hk => by rw [va_up_n _ _ (show (29 : Nat) ≠ 30 by decide)]; exact hN.2.1 k hk, hN.2.2.1, hN.2.2.2.1, by rw [va_up_n _ _ (show (0 : Nat) ≠ 30 by decide)]; exact hN.2.2.2.2⟩
theorem m_layNotes_l3 (d : Nat) (hd : 4 ≤ d) (s : Row) (hW : WF s) (O : Nat → Nat) (om : Nat) (hN : NT I B s O om) (h0 : xH) (Q : xO → xH → Prop)
    (hE : ∀ h F, MR g h m A I (va_up B 30 F) wd → MF m A h0 h → (∀ t, t < zN s 37 → F t = eI ((p_ln s O om (zN s 37)).2.2 t)) → Q (.inl none) h) :
    ∀ q k, k + q = zN s 37 → ∀ h F a4 a5 a6, MR g h m A I (va_up B 30 F) wd → MF m A h0 h → (∀ t, (p_ln s O om k).1.testBit t = true → F t = eI ((p_ln s O om k).2.2 t)) → X g l mX3_layNotes d 0 0 Q 57 [some (.ref m), some (.int (nI (p_ln s O om k).1)), some (.int (nI (p_ln s O om k).2.1)), some (.int (nI k)), a4, a5, a6] [] h 0 0 := by
  obtain ⟨h37, h37b⟩ := hW.2.2.2.2.2.2.2.2.1
  obtain ⟨h11, h11a, h11b⟩ := hW.2.2.2.2.2.1
  have hall : om * zN s 11 ≤ 32 * 9 := Nat.mul_le_mul hN.2.2.2.1 h11b
  intro q
  induction q with
  | zero =>
    intro k hk h F a4 a5 a6 hM hF hT
    have : k = zN s 37 := by omega
    subst this
    have hi := (p_ln_inv s O om h37b _ (Nat.le_refl _)).1
    refine x_iload_n (M := mX3_layNotes) (pc := 57) dX3_layNotes_57 rfl ?_
    refine x_aload_n (M := mX3_layNotes) (pc := 58) dX3_layNotes_58 rfl ?_
    refine x_get (M := mX3_layNotes) (pc := 59) kcX3 0 rfl q2835 dX3_layNotes_59 hM.1 rfl ?_
    refine x_bipush (M := mX3_layNotes) (pc := 62) (v := nI 37) dX3_layNotes_62 (by decide) ?_
    refine xm_ialdV (M := mX3_layNotes) (pc := 64) hM dX3_layNotes_64 ((by rw [(hN.up F).2.2.2.2]; exact h37 : _ = nI (zN s 37))) (by decide) (by first | decide | (simp only [mSz] <;> omega)) ?_
    first | with_reducible refine x_icmp_geN (M := mX3_layNotes) (pc := 65) 251 dX3_layNotes_65 (by decide) (by omega) (by omega) (fun c1 => ?_) (fun c1 => ?_) | refine x_icmp_ge (M := mX3_layNotes) (pc := 65) 251 dX3_layNotes_65 (by decide) (fun c1 => ?_) (fun c1 => ?_)
    · exact x_vret (pc := 251) dX3_layNotes_251 rfl (Nat.le_refl 0) (Nat.le_refl 0) (hE h F hM hF (fun t ht => hT t (p_cB_all _ hi t ht)))
    · omega
  | succ q ih =>
    intro k hk h F a4 a5 a6 hM hF hT
    obtain ⟨i1, i2, i3⟩ := p_ln_inv s O om h37b k (by omega)
    have hN' := hN.up F
    have hB0 := hN'.2.2.2.2
    refine x_iload_n (M := mX3_layNotes) (pc := 57) dX3_layNotes_57 rfl ?_
    refine x_aload_n (M := mX3_layNotes) (pc := 58) dX3_layNotes_58 rfl ?_
    refine x_get (M := mX3_layNotes) (pc := 59) kcX3 0 rfl q2835 dX3_layNotes_59 hM.1 rfl ?_
    refine x_bipush (M := mX3_layNotes) (pc := 62) (v := nI 37) dX3_layNotes_62 (by decide) ?_
    refine xm_ialdV (M := mX3_layNotes) (pc := 64) hM dX3_layNotes_64 ((by rw [hB0]; exact h37 : _ = nI (zN s 37))) (by decide) (by first | decide | (simp only [mSz] <;> omega)) ?_
    first | with_reducible refine x_icmp_geN (M := mX3_layNotes) (pc := 65) 251 dX3_layNotes_65 (by decide) (by omega) (by omega) (fun c1 => ?_) (fun c1 => ?_) | refine x_icmp_ge (M := mX3_layNotes) (pc := 65) 251 dX3_layNotes_65 (by decide) (fun c1 => ?_) (fun c1 => ?_)
    · omega
    cases hp : p_pick s (p_ln s O om k).1 (zN s 37) with
    | none => have := p_cB_full _ (p_pick_none _ hp); omega
    | some b =>
      obtain ⟨p1, p2⟩ := p_pick_lt _ _ hp
      have hln : p_ln s O om (k + 1) = ((p_ln s O om k).1 ||| 2 ^ b, p_nx (p_ln s O om k).2.1 (zN s (40 + 4 * b)) (p_at s O om (p_ln s O om k).2.1 b), fun j => if j = b then p_at s O om (p_ln s O om k).2.1 b else (p_ln s O om k).2.2 j) := by
        show p_lnS s O om (p_ln s O om k) = _
        unfold p_lnS; rw [hp]
      obtain ⟨-, -, ⟨e2, e2a, e2b⟩, ⟨e3, e3b⟩⟩ := hW.2.2.2.2.2.2.2.2.2.1 b p1
      have v2 : va_up B 30 F 0 (38 + 4 * b + 2) = nI (zN s (40 + 4 * b)) := by rw [hB0, show 38 + 4 * b + 2 = 40 + 4 * b by omega]; exact e2
      have v3 : va_up B 30 F 0 (38 + 4 * b + 3) = nI (zN s (41 + 4 * b)) := by rw [hB0, show 38 + 4 * b + 3 = 41 + 4 * b by omega]; exact e3
      have v11 : va_up B 30 F 0 11 = nI (zN s 11) := by rw [hB0]; exact h11
      refine x_iconst (M := mX3_layNotes) (pc := 68) (v := (-1)) dX3_layNotes_68 (by decide) ?_
      refine x_istore4 (M := mX3_layNotes) (pc := 69) dX3_layNotes_69 ?_
      refine x_iconst (M := mX3_layNotes) (pc := 71) (v := nI 0) dX3_layNotes_71 (by decide) ?_
      refine x_istore5 (M := mX3_layNotes) (pc := 72) dX3_layNotes_72 ?_
      refine m_layNotes_l2 d hd s hW hB0 _ b i2 hp _ _ _ h hM _ ?_ _ 0 (Nat.zero_add _)
      have hpb : 2 ^ b < 2 ^ 12 := Nat.pow_lt_pow_right (by omega) (by omega)
      refine x_iload_n (M := mX3_layNotes) (pc := 126) dX3_layNotes_126 rfl ?_
      refine x_iconst (M := mX3_layNotes) (pc := 127) (v := nI 1) dX3_layNotes_127 (by decide) ?_
      refine x_iload (M := mX3_layNotes) (pc := 128) dX3_layNotes_128 rfl ?_
      refine x_ishl (M := mX3_layNotes) (pc := 130) dX3_layNotes_130 ?_
      refine x_val (M := mX3_layNotes) (pc := 131) (nI_one b (by omega)) ?_
      refine x_ior (M := mX3_layNotes) (pc := 131) dX3_layNotes_131 ?_
      refine x_istore1 (M := mX3_layNotes) (pc := 132) dX3_layNotes_132 ?_
      refine x_aload_n (M := mX3_layNotes) (pc := 133) dX3_layNotes_133 rfl ?_
      refine x_get (M := mX3_layNotes) (pc := 134) kcX3 0 rfl q2835 dX3_layNotes_134 hM.1 rfl ?_
      refine x_bipush (M := mX3_layNotes) (pc := 137) (v := nI 38) dX3_layNotes_137 (by decide) ?_
      refine x_iconst (M := mX3_layNotes) (pc := 139) (v := nI 4) dX3_layNotes_139 (by decide) ?_
      refine x_iload (M := mX3_layNotes) (pc := 140) dX3_layNotes_140 rfl ?_
      first | with_reducible refine x_imulN (M := mX3_layNotes) (pc := 142) dX3_layNotes_142 ?_ | refine x_imul (M := mX3_layNotes) (pc := 142) dX3_layNotes_142 ?_
      first | with_reducible refine x_iaddN (M := mX3_layNotes) (pc := 143) dX3_layNotes_143 ?_ | refine x_iadd (M := mX3_layNotes) (pc := 143) dX3_layNotes_143 ?_
      refine x_iconst (M := mX3_layNotes) (pc := 144) (v := nI 2) dX3_layNotes_144 (by decide) ?_
      first | with_reducible refine x_iaddN (M := mX3_layNotes) (pc := 145) dX3_layNotes_145 ?_ | refine x_iadd (M := mX3_layNotes) (pc := 145) dX3_layNotes_145 ?_
      refine xm_ialdV (M := mX3_layNotes) (pc := 146) hM dX3_layNotes_146 (v2) (by decide) (by first | decide | (simp only [mSz] <;> omega)) ?_
      refine x_istore5 (M := mX3_layNotes) (pc := 147) dX3_layNotes_147 ?_
      refine x_joinB 173 (decide ((p_ln s O om k).2.1 + zN s (40 + 4 * b) ≤ om * zN s 11)) (fun J => ?_) ?_
      · refine x_iload_n (M := mX3_layNotes) (pc := 149) dX3_layNotes_149 rfl ?_
        refine x_iload (M := mX3_layNotes) (pc := 150) dX3_layNotes_150 rfl ?_
        first | with_reducible refine x_iaddN (M := mX3_layNotes) (pc := 152) dX3_layNotes_152 ?_ | refine x_iadd (M := mX3_layNotes) (pc := 152) dX3_layNotes_152 ?_
        refine x_aload_n (M := mX3_layNotes) (pc := 153) dX3_layNotes_153 rfl ?_
        refine x_get (M := mX3_layNotes) (pc := 154) kcX3 28 rfl q2863 dX3_layNotes_154 hM.1 rfl ?_
        refine x_val (M := mX3_layNotes) (pc := 157) (hN'.1) ?_
        refine x_aload_n (M := mX3_layNotes) (pc := 157) dX3_layNotes_157 rfl ?_
        refine x_get (M := mX3_layNotes) (pc := 158) kcX3 0 rfl q2835 dX3_layNotes_158 hM.1 rfl ?_
        refine x_bipush (M := mX3_layNotes) (pc := 161) (v := nI 11) dX3_layNotes_161 (by decide) ?_
        refine xm_ialdV (M := mX3_layNotes) (pc := 163) hM dX3_layNotes_163 (v11) (by decide) (by first | decide | (simp only [mSz] <;> omega)) ?_
        first | with_reducible refine x_imulN (M := mX3_layNotes) (pc := 164) dX3_layNotes_164 ?_ | refine x_imul (M := mX3_layNotes) (pc := 164) dX3_layNotes_164 ?_
        first | with_reducible refine x_icmp_gtN (M := mX3_layNotes) (pc := 165) 172 dX3_layNotes_165 (by decide) (by omega) (by omega) (fun c165 => ?_) (fun c165 => ?_) | refine x_icmp_gt (M := mX3_layNotes) (pc := 165) 172 dX3_layNotes_165 (by decide) (fun c165 => ?_) (fun c165 => ?_)
        · refine x_iconst (M := mX3_layNotes) (pc := 172) (v := nI 0) dX3_layNotes_172 (by decide) ?_
          first | exact J true (by rw [decide_eq_true]; omega) | exact J false (by rw [decide_eq_false]; omega)
        · refine x_iconst (M := mX3_layNotes) (pc := 168) (v := nI 1) dX3_layNotes_168 (by decide) ?_
          refine x_goto (M := mX3_layNotes) (pc := 169) 173 dX3_layNotes_169 (by decide) ?_
          first | exact J true (by rw [decide_eq_true]; omega) | exact J false (by rw [decide_eq_false]; omega)
      refine x_istore6 (M := mX3_layNotes) (pc := 173) dX3_layNotes_173 ?_
      refine x_aload_n (M := mX3_layNotes) (pc := 175) dX3_layNotes_175 rfl ?_
      refine x_get (M := mX3_layNotes) (pc := 176) kcX3 30 rfl q2865 dX3_layNotes_176 hM.1 rfl ?_
      refine x_iload (M := mX3_layNotes) (pc := 179) dX3_layNotes_179 rfl ?_
      refine x_joinV 219 (eI (p_at s O om (p_ln s O om k).2.1 b)) (fun J => ?_) ?_
      · refine x_aload_n (M := mX3_layNotes) (pc := 181) dX3_layNotes_181 rfl ?_
        refine x_get (M := mX3_layNotes) (pc := 182) kcX3 0 rfl q2835 dX3_layNotes_182 hM.1 rfl ?_
        refine x_bipush (M := mX3_layNotes) (pc := 185) (v := nI 38) dX3_layNotes_185 (by decide) ?_
        refine x_iconst (M := mX3_layNotes) (pc := 187) (v := nI 4) dX3_layNotes_187 (by decide) ?_
        refine x_iload (M := mX3_layNotes) (pc := 188) dX3_layNotes_188 rfl ?_
        first | with_reducible refine x_imulN (M := mX3_layNotes) (pc := 190) dX3_layNotes_190 ?_ | refine x_imul (M := mX3_layNotes) (pc := 190) dX3_layNotes_190 ?_
        first | with_reducible refine x_iaddN (M := mX3_layNotes) (pc := 191) dX3_layNotes_191 ?_ | refine x_iadd (M := mX3_layNotes) (pc := 191) dX3_layNotes_191 ?_
        refine x_iconst (M := mX3_layNotes) (pc := 192) (v := nI 3) dX3_layNotes_192 (by decide) ?_
        first | with_reducible refine x_iaddN (M := mX3_layNotes) (pc := 193) dX3_layNotes_193 ?_ | refine x_iadd (M := mX3_layNotes) (pc := 193) dX3_layNotes_193 ?_
        refine xm_ialdV (M := mX3_layNotes) (pc := 194) hM dX3_layNotes_194 (v3) (by decide) (by first | decide | (simp only [mSz] <;> omega)) ?_
        refine x_iconst (M := mX3_layNotes) (pc := 195) (v := nI 1) dX3_layNotes_195 (by decide) ?_
        first | with_reducible refine x_icmp_neN (M := mX3_layNotes) (pc := 196) 209 dX3_layNotes_196 (by decide) (by omega) (by omega) (fun c196 => ?_) (fun c196 => ?_) | refine x_icmp_ne (M := mX3_layNotes) (pc := 196) 209 dX3_layNotes_196 (by decide) (fun c196 => ?_) (fun c196 => ?_)
        · refine x_iload (M := mX3_layNotes) (pc := 209) dX3_layNotes_209 rfl ?_
          first | with_reducible refine x_ifB_eq (M := mX3_layNotes) (pc := 211) 218 dX3_layNotes_211 (by decide) (fun c211 => ?_) (fun c211 => ?_) | with_reducible refine x_if_eqN (M := mX3_layNotes) (pc := 211) 218 dX3_layNotes_211 (by decide) (by omega) (fun c211 => ?_) (fun c211 => ?_) | refine x_if_eq (M := mX3_layNotes) (pc := 211) 218 dX3_layNotes_211 (by decide) (fun c211 => ?_) (fun c211 => ?_)
          · refine x_iconst (M := mX3_layNotes) (pc := 218) (v := (-1)) dX3_layNotes_218 (by decide) ?_
            first | exact J _ (by rw [p_at, if_pos c196]) | exact J _ (by rw [p_at, if_neg c196, if_pos (of_decide_eq_true c211)]; rfl) | exact J _ (by rw [p_at, if_neg c196, if_neg (of_decide_eq_false c211)]; rfl)
          · refine x_iload_n (M := mX3_layNotes) (pc := 214) dX3_layNotes_214 rfl ?_
            refine x_goto (M := mX3_layNotes) (pc := 215) 219 dX3_layNotes_215 (by decide) ?_
            first | exact J _ (by rw [p_at, if_pos c196]) | exact J _ (by rw [p_at, if_neg c196, if_pos (of_decide_eq_true c211)]; rfl) | exact J _ (by rw [p_at, if_neg c196, if_neg (of_decide_eq_false c211)]; rfl)
        · refine x_aload_n (M := mX3_layNotes) (pc := 199) dX3_layNotes_199 rfl ?_
          refine x_iload_n (M := mX3_layNotes) (pc := 200) dX3_layNotes_200 rfl ?_
          refine x_iload (M := mX3_layNotes) (pc := 201) dX3_layNotes_201 rfl ?_
          refine x_V2 (M := mX3_layNotes) (pc := 203) (M' := mX3_wholeFrom) q3233 kVX3_wholeFrom dX3_layNotes_203 (m_wholeFrom (d - 1) (by omega) s hW O om hN' _ _ i3 e2a e2b h hM) (hM.is) (fun v_ h hq_ => ?_)
          obtain ⟨hv_, rfl⟩ := hq_; cases hv_
          refine x_goto (M := mX3_layNotes) (pc := 206) 219 dX3_layNotes_206 (by decide) ?_
          first | exact J _ (by rw [p_at, if_pos c196]) | exact J _ (by rw [p_at, if_neg c196, if_pos (of_decide_eq_true c211)]; rfl) | exact J _ (by rw [p_at, if_neg c196, if_neg (of_decide_eq_false c211)]; rfl)
      refine xm_iast (M := mX3_layNotes) (pc := 219) hM hF dX3_layNotes_219 (by decide) (by first | decide | (simp only [mSz] <;> omega)) (fun h hM hF => ?_)
      skip
      have hnx : ∀ h F', (∀ t, F' t = upd F b (eI (p_at s O om (p_ln s O om k).2.1 b)) t) → MR g h m A I (va_up B 30 F') wd → MF m A h0 h → ∀ a4 a5 a6, X g l mX3_layNotes d 0 0 Q 57 [some (.ref m), some (.int (nI ((p_ln s O om k).1 ||| 2 ^ b))), some (.int (nI (p_nx (p_ln s O om k).2.1 (zN s (40 + 4 * b)) (p_at s O om (p_ln s O om k).2.1 b)))), some (.int (nI (k + 1))), a4, a5, a6] [] h 0 0 := fun h F' hF' hM hF a4 a5 a6 => by
        have := ih (k + 1) (by omega) h F' a4 a5 a6 hM hF (fun t ht => by
          rw [hF', hln]
          rw [hln] at ht
          unfold upd
          by_cases e : t = b
          · rw [if_pos e]; show _ = eI (if t = b then _ else _); rw [if_pos e]
          · rw [if_neg e]; show _ = eI (if t = b then _ else _); rw [if_neg e]
            refine hT t ?_
            have ht' : ((p_ln s O om k).1 ||| 2 ^ b).testBit t = true := ht
            rw [or_bit, decide_eq_false (fun z => e z.symm), Bool.or_false] at ht'
            exact ht')
        rw [hln] at this
        exact this
      have hva := fun (G : Nat → Int32) (x : Int32) => (show va_up (va_up B 30 F) 30 (upd G b x) 30 b = x by rw [va_up_s, upd_s])
      cases hr : p_at s O om (p_ln s O om k).2.1 b with
      | none =>
        have hvs : ∀ G, va_up (va_up B 30 F) 30 (upd G b (eI (p_at s O om (p_ln s O om k).2.1 b))) 30 b = -1 := fun G => (hva G _).trans (congrArg eI hr)
        refine x_aload_n (M := mX3_layNotes) (pc := 220) dX3_layNotes_220 rfl ?_
        refine x_get (M := mX3_layNotes) (pc := 221) kcX3 30 rfl q2865 dX3_layNotes_221 hM.1 rfl ?_
        refine x_iload (M := mX3_layNotes) (pc := 224) dX3_layNotes_224 rfl ?_
        refine xm_ialdV (M := mX3_layNotes) (pc := 226) hM dX3_layNotes_226 (hvs _) (by decide) (by first | decide | (simp only [mSz] <;> omega)) ?_
        first | refine x_if_ge (M := mX3_layNotes) (pc := 227) 234 dX3_layNotes_227 (by decide) (fun c227 => ?_) (fun c227 => ?_)
        · exact absurd c227 (by decide)
        · refine x_iload_n (M := mX3_layNotes) (pc := 230) dX3_layNotes_230 rfl ?_
          refine x_goto (M := mX3_layNotes) (pc := 231) 244 dX3_layNotes_231 (by decide) ?_
          refine x_istore2 (M := mX3_layNotes) (pc := 244) dX3_layNotes_244 ?_
          first | refine x_iinc3N (M := mX3_layNotes) (pc := 245) (c := 1) dX3_layNotes_245 oI1 ?_ | refine x_iinc3 (M := mX3_layNotes) (pc := 245) (c := 1) dX3_layNotes_245 (by decide) ?_
          refine x_goto (M := mX3_layNotes) (pc := 248) 57 dX3_layNotes_248 (by decide) ?_
          rw [nI_or]; have := hnx h _ (fun t => rfl) (hM.up2 fun t => by rw [va_up_s]) hF; rw [hr] at this; exact this _ _ _
      | some v =>
        have hv := p_at_le i3 hr
        have hvs : ∀ G, va_up (va_up B 30 F) 30 (upd G b (eI (p_at s O om (p_ln s O om k).2.1 b))) 30 b = nI v := fun G => (hva G _).trans (congrArg eI hr)
        refine x_aload_n (M := mX3_layNotes) (pc := 220) dX3_layNotes_220 rfl ?_
        refine x_get (M := mX3_layNotes) (pc := 221) kcX3 30 rfl q2865 dX3_layNotes_221 hM.1 rfl ?_
        refine x_iload (M := mX3_layNotes) (pc := 224) dX3_layNotes_224 rfl ?_
        refine xm_ialdV (M := mX3_layNotes) (pc := 226) hM dX3_layNotes_226 (hvs _) (by decide) (by first | decide | (simp only [mSz] <;> omega)) ?_
        first | refine x_if_ge (M := mX3_layNotes) (pc := 227) 234 dX3_layNotes_227 (by decide) (fun c227 => ?_) (fun c227 => ?_)
        · refine x_aload_n (M := mX3_layNotes) (pc := 234) dX3_layNotes_234 rfl ?_
          refine x_get (M := mX3_layNotes) (pc := 235) kcX3 30 rfl q2865 dX3_layNotes_235 hM.1 rfl ?_
          refine x_iload (M := mX3_layNotes) (pc := 238) dX3_layNotes_238 rfl ?_
          refine xm_ialdV (M := mX3_layNotes) (pc := 240) hM dX3_layNotes_240 (hvs _) (by decide) (by first | decide | (simp only [mSz] <;> omega)) ?_
          refine x_iload (M := mX3_layNotes) (pc := 241) dX3_layNotes_241 rfl ?_
          first | with_reducible refine x_iaddN (M := mX3_layNotes) (pc := 243) dX3_layNotes_243 ?_ | refine x_iadd (M := mX3_layNotes) (pc := 243) dX3_layNotes_243 ?_
          refine x_istore2 (M := mX3_layNotes) (pc := 244) dX3_layNotes_244 ?_
          first | refine x_iinc3N (M := mX3_layNotes) (pc := 245) (c := 1) dX3_layNotes_245 oI1 ?_ | refine x_iinc3 (M := mX3_layNotes) (pc := 245) (c := 1) dX3_layNotes_245 (by decide) ?_
          refine x_goto (M := mX3_layNotes) (pc := 248) 57 dX3_layNotes_248 (by decide) ?_
          rw [nI_or]; have := hnx h _ (fun t => rfl) (hM.up2 fun t => by rw [va_up_s]) hF; rw [hr] at this; exact this _ _ _
        · exact absurd (Int32.not_lt.mp (nI_pos (by omega))) c227
theorem m_layNotes (d : Nat) (hd : 4 ≤ d) (s : Row) (hB : BW I B s (zLy s)) (hW : WF s) : MC g l mX3_layNotes d [] m A I B wd (fun v I' B' wd' => v = none ∧ wd' = wd ∧ (∀ j, j ≠ 28 → I' j = I j) ∧ (∀ j, j ≠ 29 → j ≠ 30 → B' j = B j) ∧ NT I' B' s (zO s) (zOm s) ∧ ∀ t, t < zN s 37 → B' 30 t = eI (zFL s t)) := by
  intro h hM
  have hF : MF m A h h := MF.rf
  have b2 := hB.1.2.2.2.2.1
  refine Ct.of [some (.ref m), none, none, none, none, none, none] (by decide +kernel) rfl (Nat.le_of_ble_eq_true rfl) rfl rfl ?_
  refine x_aload_n (M := mX3_layNotes) (pc := 0) dX3_layNotes_0 rfl ?_
  refine x_iconst (M := mX3_layNotes) (pc := 1) (v := nI 0) dX3_layNotes_1 (by decide) ?_
  refine xm_put28 (M := mX3_layNotes) (pc := 2) hM hF q2863 dX3_layNotes_2 (fun h hM hF => ?_)
  refine x_iconst (M := mX3_layNotes) (pc := 5) (v := nI 0) dX3_layNotes_5 (by decide) ?_
  refine x_istore1 (M := mX3_layNotes) (pc := 6) dX3_layNotes_6 ?_
  refine m_layNotes_l1 d hd s hB hW _ _ _ _ _ _ _ (fun h T hM hF hT => ?_) _ 0 (Nat.zero_add _) h (B 29) (by rw [va_up_id]; exact hM) hF (fun t ht => absurd ht (Nat.not_lt_zero _))
  have hN : NT (upd I 28 (nI (zOm s))) (va_up B 29 T) s (zO s) (zOm s) := ⟨upd_s _ _ _, fun k hk => by rw [va_up_s]; exact hT k hk, zO_lt b2, zOm_le b2, by rw [va_up_n _ _ (show (0 : Nat) ≠ 29 by decide)]; exact hB.2⟩
  refine x_iconst (M := mX3_layNotes) (pc := 51) (v := nI 0) dX3_layNotes_51 (by decide) ?_
  refine x_istore1 (M := mX3_layNotes) (pc := 52) dX3_layNotes_52 ?_
  refine x_iconst (M := mX3_layNotes) (pc := 53) (v := nI 0) dX3_layNotes_53 (by decide) ?_
  refine x_istore2 (M := mX3_layNotes) (pc := 54) dX3_layNotes_54 ?_
  refine x_iconst (M := mX3_layNotes) (pc := 55) (v := nI 0) dX3_layNotes_55 (by decide) ?_
  refine x_istore3 (M := mX3_layNotes) (pc := 56) dX3_layNotes_56 ?_
  refine m_layNotes_l3 d hd s hW _ _ hN _ _ (fun h F hM hF hT => ?_) _ 0 (Nat.zero_add _) h (va_up B 29 T 30) _ _ _ (by rw [va_up_id]; exact hM) hF (fun t ht => by rw [show (p_ln s (zO s) (zOm s) 0).1 = 0 from rfl, Nat.zero_testBit] at ht; cases ht)
  refine ⟨_, _, _, _, rfl, ⟨rfl, rfl, fun j hj => upd_n _ _ hj, fun j h1 h2 => by rw [va_up_n _ _ h2, va_up_n _ _ h1], hN.up F, fun t ht => by rw [va_up_s]; exact hT t ht⟩, hM, hF⟩
end MODELJ

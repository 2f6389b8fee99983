section WFKEEP
set_option maxRecDepth 100000
theorem zN_of {s s' : Row} {k : Nat} (h : s' k = s k) : zN s' k = zN s k := by unfold zN; rw [h]
theorem zN_nI {s : Row} {k n : Nat} (hn : n < 2 ^ 31) (h : s k = nI n) : zN s k = n := by unfold zN; rw [h, nI_clamp hn]
def P1 (s : Row) : Prop := FW s (zHi s) (zWi s) (zNf s) (zFo s)
def P7 (s : Row) : Prop := s 7 = nI (zN s 7) ∧ zN s 7 < 2
def P8 (s : Row) : Prop := s 8 = nI (zN s 8) ∧ zN s 8 < 16
def P9 (s : Row) : Prop := s 9 = nI (zN s 9) ∧ zN s 9 < 1024
def P10 (s : Row) : Prop := s 10 = nI (zN s 10) ∧ 1 ≤ zN s 10 ∧ zN s 10 ≤ 16
def P11 (s : Row) : Prop := s 11 = nI (zN s 11) ∧ 1 ≤ zN s 11 ∧ zN s 11 ≤ 9
def P12 (s : Row) : Prop := (s 12 = nI (zN s 12) ∧ zN s 12 ≤ 8) ∧ (∀ k, k < zN s 12 → (s (13 + 3 * k) = nI (zN s (13 + 3 * k)) ∧ zN s (13 + 3 * k) < 2 * (zHi s * zWi s)) ∧ (s (14 + 3 * k) = nI (zN s (14 + 3 * k)) ∧ zN s (14 + 3 * k) < 32) ∧ (s (15 + 3 * k) = nI (zN s (15 + 3 * k)) ∧ zN s (15 + 3 * k) < 2))
def P37 (s : Row) : Prop := (s 37 = nI (zN s 37) ∧ zN s 37 ≤ 12) ∧ (∀ k, k < zN s 37 → (s (38 + 4 * k) = nI (zN s (38 + 4 * k)) ∧ zN s (38 + 4 * k) < 100) ∧ (s (39 + 4 * k) = nI (zN s (39 + 4 * k)) ∧ zN s (39 + 4 * k) < 10) ∧ (s (40 + 4 * k) = nI (zN s (40 + 4 * k)) ∧ 1 ≤ zN s (40 + 4 * k) ∧ zN s (40 + 4 * k) ≤ 20) ∧ (s (41 + 4 * k) = nI (zN s (41 + 4 * k)) ∧ zN s (41 + 4 * k) < 2))
def P90 (s : Row) : Prop := ∀ k, k < 32 → (s (90 + k) = -1 ∨ (s (90 + k) = nI (zN s (90 + k)) ∧ zN s (90 + k) < 32)) ∧ (s (122 + k) = bI (decide (s (122 + k) = 1)))
theorem WF.of {s : Row} (a : P1 s) (b : P7 s) (c : P8 s) (d : P9 s) (e : P10 s) (f : P11 s) (g : P12 s) (h : P37 s) (i : P90 s) : WF s := ⟨a, b, c, d, e, f, g.1, g.2, h.1, h.2, i⟩
theorem WF.p1 {s : Row} (h : WF s) : P1 s := h.1
theorem WF.p7 {s : Row} (h : WF s) : P7 s := h.2.1
theorem WF.p8 {s : Row} (h : WF s) : P8 s := h.2.2.1
theorem WF.p9 {s : Row} (h : WF s) : P9 s := h.2.2.2.1
theorem WF.p10 {s : Row} (h : WF s) : P10 s := h.2.2.2.2.1
theorem WF.p11 {s : Row} (h : WF s) : P11 s := h.2.2.2.2.2.1
theorem WF.p12 {s : Row} (h : WF s) : P12 s := ⟨h.2.2.2.2.2.2.1, h.2.2.2.2.2.2.2.1⟩
theorem WF.p37 {s : Row} (h : WF s) : P37 s := ⟨h.2.2.2.2.2.2.2.2.1, h.2.2.2.2.2.2.2.2.2.1⟩
theorem WF.p90 {s : Row} (h : WF s) : P90 s := h.2.2.2.2.2.2.2.2.2.2
variable {s s' : Row}
theorem P1.nf {s : Row} (h : P1 s) : zNf s ≤ 4 := p_cans_le h.2.2.2.2.1 h.2.2.2.2.2
theorem P1.c (h : P1 s) (e : ∀ k, k < 7 → s' k = s k) : P1 s' := by
  have hn := h.nf
  unfold P1
  rw [show zHi s' = zHi s from zN_of (e 0 (by omega)), show zWi s' = zWi s from zN_of (e 1 (by omega)), show zNf s' = zNf s from zN_of (e 2 (by omega))]
  have hf : ∀ k, k < zNf s → zFo s' k = zFo s k := fun k hk => zN_of (e (3 + k) (by omega))
  refine ⟨(e 0 (by omega)).trans h.1, (e 1 (by omega)).trans h.2.1, (e 2 (by omega)).trans h.2.2.1, fun k hk => ?_, h.2.2.2.2.1, (p_cans_ext _ hf).trans h.2.2.2.2.2⟩
  rw [hf k hk, e (3 + k) (by omega)]; exact h.2.2.2.1 k hk
theorem P7.c (h : P7 s) (e : s' 7 = s 7) : P7 s' := by unfold P7; rw [zN_of e, e]; exact h
theorem P8.c (h : P8 s) (e : s' 8 = s 8) : P8 s' := by unfold P8; rw [zN_of e, e]; exact h
theorem P9.c (h : P9 s) (e : s' 9 = s 9) : P9 s' := by unfold P9; rw [zN_of e, e]; exact h
theorem P10.c (h : P10 s) (e : s' 10 = s 10) : P10 s' := by unfold P10; rw [zN_of e, e]; exact h
theorem P11.c (h : P11 s) (e : s' 11 = s 11) : P11 s' := by unfold P11; rw [zN_of e, e]; exact h
theorem P12.c (h : P12 s) (e0 : s' 0 = s 0) (e1 : s' 1 = s 1) (e : ∀ k, 12 ≤ k → k < 37 → s' k = s k) : P12 s' := by
  have h8 := h.1.2
  unfold P12
  rw [show zHi s' = zHi s from zN_of e0, show zWi s' = zWi s from zN_of e1, zN_of (e 12 (by omega) (by omega)), e 12 (by omega) (by omega)]
  refine ⟨h.1, fun k hk => ?_⟩
  rw [zN_of (e (13 + 3 * k) (by omega) (by omega)), e (13 + 3 * k) (by omega) (by omega), zN_of (e (14 + 3 * k) (by omega) (by omega)), e (14 + 3 * k) (by omega) (by omega), zN_of (e (15 + 3 * k) (by omega) (by omega)), e (15 + 3 * k) (by omega) (by omega)]
  exact h.2 k hk
theorem P37.c (h : P37 s) (e : ∀ k, 37 ≤ k → k < 86 → s' k = s k) : P37 s' := by
  have h8 := h.1.2
  unfold P37
  rw [zN_of (e 37 (by omega) (by omega)), e 37 (by omega) (by omega)]
  refine ⟨h.1, fun k hk => ?_⟩
  rw [zN_of (e (38 + 4 * k) (by omega) (by omega)), e (38 + 4 * k) (by omega) (by omega), zN_of (e (39 + 4 * k) (by omega) (by omega)), e (39 + 4 * k) (by omega) (by omega), zN_of (e (40 + 4 * k) (by omega) (by omega)), e (40 + 4 * k) (by omega) (by omega), zN_of (e (41 + 4 * k) (by omega) (by omega)), e (41 + 4 * k) (by omega) (by omega)]
  exact h.2 k hk
theorem P90.c (h : P90 s) (e : ∀ k, 90 ≤ k → k < 154 → s' k = s k) : P90 s' := fun k hk => by
  rw [zN_of (e (90 + k) (by omega) (by omega)), e (90 + k) (by omega) (by omega), e (122 + k) (by omega) (by omega)]
  exact h k hk
theorem WF.c (h : WF s) (e : ∀ k, k < 154 → ¬ (86 ≤ k ∧ k < 90) → s' k = s k) : WF s' :=
  WF.of (h.p1.c fun k hk => e k (by omega) (by omega)) (h.p7.c (e 7 (by omega) (by omega))) (h.p8.c (e 8 (by omega) (by omega))) (h.p9.c (e 9 (by omega) (by omega))) (h.p10.c (e 10 (by omega) (by omega))) (h.p11.c (e 11 (by omega) (by omega))) (h.p12.c (e 0 (by omega) (by omega)) (e 1 (by omega) (by omega)) fun k _ _ => e k (by omega) (by omega)) (h.p37.c fun k _ _ => e k (by omega) (by omega)) (h.p90.c fun k _ _ => e k (by omega) (by omega))
/-- a command's row: well formed again -/
def KEEP (s : Row) (r : CRes) : Prop := ∀ x s', r = .inr (x, s') → WF s' ∧ (∀ k, 154 ≤ k → s' k = s k)
theorem keep_l (s : Row) (e : Int32) : KEEP s (.inl e) := fun _ _ h => by cases h
theorem keep_r {s s' : Row} {x : Int32} (h : WF s') (e : ∀ k, 154 ≤ k → s' k = s k) : KEEP s (.inr (x, s')) := fun _ _ q => by cases q; exact ⟨h, e⟩
theorem bIn01 {x : Int32} (h : bIn x 0 1 = true) : ∃ n, x = nI n ∧ n < 2 := by
  obtain ⟨n, h1, -, h2⟩ := bIn_n (a := 0) (b := 1) (by omega) (by omega) h
  exact ⟨n, h1, by omega⟩
theorem isSz_n {x : Int32} (h : isSz x = true) : ∃ n, x = nI n ∧ (n = 1 ∨ n = 2 ∨ n = 4) := by
  simp only [isSz, Bool.or_eq_true, decide_eq_true_eq] at h
  rcases h with (h | h) | h
  · exact ⟨1, h, by simp⟩
  · exact ⟨2, h, by simp⟩
  · exact ⟨4, h, by simp⟩
theorem k_setSheet (h : WF s) (x y : Int32) : KEEP s (c_setSheet s x y) := by
  unfold c_setSheet
  split
  · rename_i hc
    rw [Bool.and_eq_true] at hc
    obtain ⟨a, rfl, ha⟩ := isSz_n hc.1
    obtain ⟨b, rfl, hb⟩ := isSz_n hc.2
    have ha' : a < 2 ^ 31 := by omega
    have hb' : b < 2 ^ 31 := by omega
    have hn : ∀ (t : Row) k, ¬ (90 ≤ k ∧ k < 154) → p_noPrint 32 t k = t k := fun t k hk => by unfold p_noPrint; rw [if_neg (by omega), if_neg (by omega)]
    generalize ht : upd (upd (upd (upd (upd (upd s 0 (nI a)) 1 (nI b)) 2 0) 8 0) 9 0) 12 0 = t
    have e0 : p_noPrint 32 t 0 = nI a := by rw [hn _ _ (by omega), ← ht]; rfl
    have e1 : p_noPrint 32 t 1 = nI b := by rw [hn _ _ (by omega), ← ht]; rfl
    have e2 : p_noPrint 32 t 2 = nI 0 := by rw [hn _ _ (by omega), ← ht]; rfl
    have e8 : p_noPrint 32 t 8 = nI 0 := by rw [hn _ _ (by omega), ← ht]; rfl
    have e9 : p_noPrint 32 t 9 = nI 0 := by rw [hn _ _ (by omega), ← ht]; rfl
    have e12 : p_noPrint 32 t 12 = nI 0 := by rw [hn _ _ (by omega), ← ht]; rfl
    have hk : ∀ k, 12 < k → ¬ (90 ≤ k ∧ k < 154) → p_noPrint 32 t k = s k := fun k h1 h2 => by
      rw [hn _ _ h2, ← ht]; (intros; (repeat rw [upd_n _ _ (by omega)]))
    refine keep_r (WF.of ?_ (h.p7.c ?_) ⟨?_, ?_⟩ ⟨?_, ?_⟩ (h.p10.c ?_) (h.p11.c ?_) ⟨⟨?_, ?_⟩, ?_⟩ (h.p37.c fun k _ _ => hk k (by omega) (by omega)) ?_) (fun k hk' => hk k (by omega) (by omega))
    · unfold P1
      rw [show zHi (p_noPrint 32 t) = a from zN_nI ha' e0, show zWi (p_noPrint 32 t) = b from zN_nI hb' e1, show zNf (p_noPrint 32 t) = 0 from zN_nI (by omega) e2]
      refine ⟨e0, e1, e2, fun k hk => by omega, ?_, rfl⟩
      rcases ha with rfl | rfl | rfl <;> rcases hb with rfl | rfl | rfl <;> rfl
    · rw [hn _ _ (by omega), ← ht]; rfl
    · rw [zN_nI (by omega) e8, e8]
    · rw [zN_nI (by omega) e8]; omega
    · rw [zN_nI (by omega) e9, e9]
    · rw [zN_nI (by omega) e9]; omega
    · rw [hn _ _ (by omega), ← ht]; rfl
    · rw [hn _ _ (by omega), ← ht]; rfl
    · rw [zN_nI (by omega) e12, e12]
    · rw [zN_nI (by omega) e12]; omega
    · intro k hk; rw [zN_nI (by omega) e12] at hk; omega
    · intro k hk
      have e1 : p_noPrint 32 t (90 + k) = -1 := by unfold p_noPrint; rw [if_pos (by omega)]
      have e2 : p_noPrint 32 t (122 + k) = 0 := by unfold p_noPrint; rw [if_neg (by omega), if_pos (by omega)]
      exact ⟨Or.inl e1, by rw [e2]; rfl⟩
  · exact keep_l _ _
theorem k_fold (h : WF s) (f : Int32) : KEEP s (c_fold s f) := by
  unfold c_fold
  split
  · exact keep_l _ _
  · rename_i h1
    split
    · exact keep_l _ _
    · rename_i h2
      obtain ⟨n, rfl, hn1, hn2⟩ := bIn_n (a := 1) (b := 4) (by omega) (by omega) (Bool.not_eq_false _ ▸ h1)
      rw [nI_clamp (by omega)] at h2
      have hm : zMay s n = true := by cases q : zMay s n with
        | true => rfl
        | false => exact absurd (Or.inl q) h2
      have hnf := h.p1.nf
      have hp1 := h.p1
      generalize hs' : upd (upd (upd s 86 (s 86 + nI (2 ^ zNf s))) (3 + zNf s) (nI n)) 2 (nI (zNf s + 1)) = s'
      have q0 : s' 0 = s 0 := by rw [← hs']; (intros; (repeat rw [upd_n _ _ (by omega)]))
      have q1 : s' 1 = s 1 := by rw [← hs']; (intros; (repeat rw [upd_n _ _ (by omega)]))
      have q2 : s' 2 = nI (zNf s + 1) := by rw [← hs', upd_s]
      have qf : ∀ k, k < zNf s → s' (3 + k) = s (3 + k) := fun k hk => by rw [← hs']; (intros; (repeat rw [upd_n _ _ (by omega)]))
      have qn : s' (3 + zNf s) = nI n := by rw [← hs', upd_n _ _ (by omega), upd_s]
      have hfo : ∀ k, k < zNf s → zFo s' k = zFo s k := fun k hk => zN_of (qf k hk)
      have hfn : zFo s' (zNf s) = n := zN_nI (by omega) qn
      have hcs : p_cans (zHi s) (zWi s) (zFo s') (zNf s + 1) = true := by
        rw [p_cans, p_cans_ext _ hfo, hp1.2.2.2.2.2, p_layn_ext _ hfo, hfn, Bool.true_and]
        unfold p_can; rw [decide_eq_true (show 1 ≤ n ∧ n ≤ 4 from ⟨hn1, hn2⟩), Bool.true_and]
        exact hm
      have hle := p_cans_le hp1.2.2.2.2.1 hcs
      have qk : ∀ k, 7 ≤ k → k ≠ 86 → s' k = s k := fun k h1 h2 => by rw [← hs']; (intros; (repeat rw [upd_n _ _ (by omega)]))
      refine keep_r (WF.of ?_ (h.p7.c (qk 7 (by omega) (by omega))) (h.p8.c (qk 8 (by omega) (by omega))) (h.p9.c (qk 9 (by omega) (by omega))) (h.p10.c (qk 10 (by omega) (by omega))) (h.p11.c (qk 11 (by omega) (by omega))) (h.p12.c q0 q1 fun k _ _ => qk k (by omega) (by omega)) (h.p37.c fun k _ _ => qk k (by omega) (by omega)) (h.p90.c fun k _ _ => qk k (by omega) (by omega))) (fun k hk => qk k (by omega) (by omega))
      unfold P1
      rw [show zHi s' = zHi s from zN_of q0, show zWi s' = zWi s from zN_of q1, show zNf s' = zNf s + 1 from zN_nI (by omega) q2]
      refine ⟨q0.trans hp1.1, q1.trans hp1.2.1, q2, fun k hk => ?_, hp1.2.2.2.2.1, hcs⟩
      rcases Nat.lt_or_ge k (zNf s) with c | c
      · rw [hfo k c, qf k c]; exact hp1.2.2.2.1 k c
      · have : k = zNf s := by omega
        subst this
        rw [hfn, qn]
theorem k_unfold (h : WF s) : KEEP s (c_unfold s) := by
  unfold c_unfold
  split
  · exact keep_l _ _
  · rename_i h2
    have h0 : zNf s ≠ 0 := fun q => h2 (Or.inl q)
    have hnf := h.p1.nf
    have hp1 := h.p1
    generalize hs' : upd (upd s 86 (s 86 + 1)) 2 (nI (zNf s - 1)) = s'
    have q2 : s' 2 = nI (zNf s - 1) := by rw [← hs', upd_s]
    have qk : ∀ k, k ≠ 2 → k ≠ 86 → s' k = s k := fun k h1 h2 => by rw [← hs']; (intros; (repeat rw [upd_n _ _ (by omega)]))
    refine keep_r (WF.of ?_ (h.p7.c (qk 7 (by omega) (by omega))) (h.p8.c (qk 8 (by omega) (by omega))) (h.p9.c (qk 9 (by omega) (by omega))) (h.p10.c (qk 10 (by omega) (by omega))) (h.p11.c (qk 11 (by omega) (by omega))) (h.p12.c (qk 0 (by omega) (by omega)) (qk 1 (by omega) (by omega)) fun k _ _ => qk k (by omega) (by omega)) (h.p37.c fun k _ _ => qk k (by omega) (by omega)) (h.p90.c fun k _ _ => qk k (by omega) (by omega))) (fun k hk => qk k (by omega) (by omega))
    unfold P1
    have hfo : ∀ k, k < zNf s - 1 → zFo s' k = zFo s k := fun k hk => zN_of (qk (3 + k) (by omega) (by omega))
    rw [show zHi s' = zHi s from zN_of (qk 0 (by omega) (by omega)), show zWi s' = zWi s from zN_of (qk 1 (by omega) (by omega)), show zNf s' = zNf s - 1 from zN_nI (by omega) q2]
    refine ⟨(qk 0 (by omega) (by omega)).trans hp1.1, (qk 1 (by omega) (by omega)).trans hp1.2.1, q2, fun k hk => ?_, hp1.2.2.2.2.1, (p_cans_ext _ hfo).trans (p_cans_mono (by omega) hp1.2.2.2.2.2)⟩
    rw [hfo k hk, qk (3 + k) (by omega) (by omega)]; exact hp1.2.2.2.1 k (by omega)
/-- a row where one of the numbers 7..11 is set (and one of 86..89) -/
theorem k_set {j : Nat} {v : Int32} {c : Nat} {w : Int32} (h : WF s) (hj : 7 ≤ j ∧ j ≤ 11) (hc : 86 ≤ c ∧ c < 90) (hv : ∃ n, v = nI n ∧ n < 2 ^ 31 ∧ (j = 7 → n < 2) ∧ (j = 8 → n < 16) ∧ (j = 9 → n < 1024) ∧ (j = 10 → 1 ≤ n ∧ n ≤ 16) ∧ (j = 11 → 1 ≤ n ∧ n ≤ 9)) (x : Int32) : KEEP s (.inr (x, upd (upd s j v) c w)) := by
  obtain ⟨n, rfl, hn, a7, a8, a9, a10, a11⟩ := hv
  generalize hs' : upd (upd s j (nI n)) c w = s'
  have qk : ∀ k, k ≠ j → ¬ (86 ≤ k ∧ k < 90) → s' k = s k := fun k h1 h2 => by rw [← hs']; (intros; (repeat rw [upd_n _ _ (by omega)]))
  have qj : s' j = nI n := by rw [← hs', upd_n _ _ (by omega), upd_s]
  have zj : zN s' j = n := zN_nI hn qj
  refine keep_r (WF.of (h.p1.c fun k hk => qk k (by omega) (by omega)) ?_ ?_ ?_ ?_ ?_ (h.p12.c (qk 0 (by omega) (by omega)) (qk 1 (by omega) (by omega)) fun k _ _ => qk k (by omega) (by omega)) (h.p37.c fun k _ _ => qk k (by omega) (by omega)) (h.p90.c fun k _ _ => qk k (by omega) (by omega))) (fun k hk => qk k (by omega) (by omega))
  · by_cases q : j = 7
    · subst q; exact ⟨by rw [zj, qj], by rw [zj]; exact a7 rfl⟩
    · exact h.p7.c (qk 7 (fun z => q z.symm) (by omega))
  · by_cases q : j = 8
    · subst q; exact ⟨by rw [zj, qj], by rw [zj]; exact a8 rfl⟩
    · exact h.p8.c (qk 8 (fun z => q z.symm) (by omega))
  · by_cases q : j = 9
    · subst q; exact ⟨by rw [zj, qj], by rw [zj]; exact a9 rfl⟩
    · exact h.p9.c (qk 9 (fun z => q z.symm) (by omega))
  · by_cases q : j = 10
    · subst q; exact ⟨by rw [zj, qj], by rw [zj]; exact a10 rfl⟩
    · exact h.p10.c (qk 10 (fun z => q z.symm) (by omega))
  · by_cases q : j = 11
    · subst q; exact ⟨by rw [zj, qj], by rw [zj]; exact a11 rfl⟩
    · exact h.p11.c (qk 11 (fun z => q z.symm) (by omega))
theorem upd_same (s : Row) (k : Nat) : upd s k (s k) = s := by
  funext j; unfold upd; split
  · rename_i e; rw [e]
  · rfl
theorem k_set1 {j : Nat} {v : Int32} (h : WF s) (hj : 7 ≤ j ∧ j ≤ 11) (hv : ∃ n, v = nI n ∧ n < 2 ^ 31 ∧ (j = 7 → n < 2) ∧ (j = 8 → n < 16) ∧ (j = 9 → n < 1024) ∧ (j = 10 → 1 ≤ n ∧ n ≤ 16) ∧ (j = 11 → 1 ≤ n ∧ n ≤ 9)) (x : Int32) : KEEP s (.inr (x, upd s j v)) := by
  have := k_set (w := (upd s j v) 86) h hj (c := 86) (by omega) hv x
  rw [upd_same] at this
  exact this
theorem k_setSpine (h : WF s) (x : Int32) : KEEP s (c_setSpine s x) := by
  unfold c_setSpine
  split
  · exact keep_l _ _
  · rename_i h1
    split
    · exact keep_l _ _
    · obtain ⟨n, rfl, hn⟩ := bIn01 (Bool.not_eq_false _ ▸ h1)
      exact k_set1 h (by omega) ⟨n, rfl, by omega, by omega, by omega, by omega, by omega, by omega⟩ _
theorem k_setLegs (h : WF s) (x : Int32) : KEEP s (c_setLegs s x) := by
  unfold c_setLegs
  split
  · exact keep_l _ _
  · rename_i h1
    obtain ⟨n, rfl, hn1, hn2⟩ := bIn_n (a := 1) (b := 16) (by omega) (by omega) (Bool.not_eq_false _ ▸ h1)
    exact k_set1 h (by omega) ⟨n, rfl, by omega, by omega, by omega, by omega, by omega, by omega⟩ _
theorem k_setLines (h : WF s) (x : Int32) : KEEP s (c_setLines s x) := by
  unfold c_setLines
  split
  · exact keep_l _ _
  · rename_i h1
    obtain ⟨n, rfl, hn1, hn2⟩ := bIn_n (a := 1) (b := 9) (by omega) (by omega) (Bool.not_eq_false _ ▸ h1)
    exact k_set1 h (by omega) ⟨n, rfl, by omega, by omega, by omega, by omega, by omega, by omega⟩ _
theorem k_cut (h : WF s) (x : Int32) : KEEP s (c_cut s x) := by
  unfold c_cut
  split
  · exact keep_l _ _
  · rename_i h1
    split
    · exact keep_l _ _
    · obtain ⟨n, rfl, hn1, hn2⟩ := bIn_n (a := 0) (b := 3) (by omega) (by omega) (Bool.not_eq_false _ ▸ h1)
      rw [nI_clamp (by omega)]
      have hb : zN s 8 ||| 2 ^ n < 2 ^ 4 := Nat.or_lt_two_pow (h.p8.2) (Nat.pow_lt_pow_right (by omega) (by omega))
      exact k_set h (by omega) (by omega) ⟨_, rfl, by omega, by omega, fun _ => by omega, by omega, by omega, by omega⟩ _
theorem k_staple (h : WF s) (x : Int32) : KEEP s (c_staple s x) := by
  unfold c_staple
  split
  · exact keep_l _ _
  · rename_i h1
    split
    · exact keep_l _ _
    · split
      · exact keep_l _ _
      · obtain ⟨n, rfl, hn1, hn2⟩ := bIn_n (a := 0) (b := 9) (by omega) (by omega) (Bool.not_eq_false _ ▸ h1)
        rw [nI_clamp (by omega)]
        have hb : zN s 9 ||| 2 ^ n < 2 ^ 10 := Nat.or_lt_two_pow (h.p9.2) (Nat.pow_lt_pow_right (by omega) (by omega))
        exact k_set h (by omega) (by omega) ⟨_, rfl, by omega, by omega, by omega, fun _ => by omega, by omega, by omega⟩ _
theorem k_unstaple (h : WF s) (x : Int32) : KEEP s (c_unstaple s x) := by
  unfold c_unstaple
  split
  · exact keep_l _ _
  · split
    · exact keep_l _ _
    · have h9 := h.p9.2
      have hb : p_clr (zN s 9) x.toNatClampNeg < 1024 := by unfold p_clr; split; exact Nat.lt_of_le_of_lt (Nat.sub_le _ _) h9; exact h9
      exact k_set h (by omega) (by omega) ⟨_, rfl, by omega, by omega, by omega, fun _ => by omega, by omega, by omega⟩ _
/-- printing keeps a row -/
theorem k_prS (h : WF s) (a : Nat) (ha : a < 32) (nu tn : Int32) (hnu : nu = -1 ∨ ∃ n, nu = nI n ∧ n < 32) (htn : ∃ b, tn = bI b) : WF (p_prS s a nu tn) := by
  unfold p_prS
  generalize hs' : upd (upd (upd s (90 + a) nu) (122 + a) (p_prT nu tn)) 87 (s 87 + p_prC s a nu tn) = s'
  have qk : ∀ k, k ≠ 90 + a → k ≠ 122 + a → k ≠ 87 → s' k = s k := fun k h1 h2 h3 => by rw [← hs']; (intros; (repeat rw [upd_n _ _ (by omega)]))
  have qa : s' (90 + a) = nu := by rw [← hs', upd_n _ _ (by omega), upd_n _ _ (by omega), upd_s]
  have qb : s' (122 + a) = p_prT nu tn := by rw [← hs', upd_n _ _ (by omega), upd_s]
  refine WF.of (h.p1.c fun k hk => qk k (by omega) (by omega) (by omega)) (h.p7.c (qk 7 (by omega) (by omega) (by omega))) (h.p8.c (qk 8 (by omega) (by omega) (by omega))) (h.p9.c (qk 9 (by omega) (by omega) (by omega))) (h.p10.c (qk 10 (by omega) (by omega) (by omega))) (h.p11.c (qk 11 (by omega) (by omega) (by omega))) (h.p12.c (qk 0 (by omega) (by omega) (by omega)) (qk 1 (by omega) (by omega) (by omega)) fun k _ _ => qk k (by omega) (by omega) (by omega)) (h.p37.c fun k _ _ => qk k (by omega) (by omega) (by omega)) ?_
  intro k hk
  by_cases q : k = a
  · subst q
    refine ⟨?_, ?_⟩
    · rcases hnu with rfl | ⟨n, rfl, hn⟩
      · exact Or.inl qa
      · exact Or.inr ⟨by rw [zN_nI (by omega) qa, qa], by rw [zN_nI (by omega) qa]; exact hn⟩
    · rw [qb]
      obtain ⟨b, rfl⟩ := htn
      unfold p_prT
      split
      · rfl
      · cases b <;> rfl
  · rw [zN_of (qk (90 + k) (by omega) (by omega) (by omega)), qk (90 + k) (by omega) (by omega) (by omega), qk (122 + k) (by omega) (by omega) (by omega)]
    exact h.p90 k hk
theorem prS_n (s : Row) (a : Nat) (ha : a < 32) (nu tn : Int32) (k : Nat) (hk : k < 86 ∨ 154 ≤ k) : p_prS s a nu tn k = s k := by
  unfold p_prS
  (intros; (repeat rw [upd_n _ _ (by omega)]))
end WFKEEP

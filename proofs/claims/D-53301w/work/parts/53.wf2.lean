section WFKEEP2
set_option maxRecDepth 100000
variable {s s' : Row}
theorem nu_n {x : Int32} (h : bIn x (-1) 31 = true) : x = -1 ∨ ∃ n, x = nI n ∧ n < 32 := by
  have h' : -1 ≤ x ∧ x ≤ 31 := of_decide_eq_true h
  by_cases c : 0 ≤ x
  · obtain ⟨n, h1, -, h2⟩ := bIn_n (x := x) (a := 0) (b := 31) (by omega) (by omega) (decide_eq_true ⟨c, h'.2⟩)
    exact Or.inr ⟨n, h1, by omega⟩
  · left
    have a := Int32.le_iff_toInt_le.mp h'.1
    have b : ¬ (0 : Int32).toInt ≤ x.toInt := fun z => c (Int32.le_iff_toInt_le.mpr z)
    apply Int32.toInt_inj.mp
    have e1 : (-1 : Int32).toInt = -1 := rfl
    have e2 : (0 : Int32).toInt = 0 := rfl
    omega
theorem tn_n {x : Int32} (h : bIn x 0 1 = true) : ∃ b, x = bI b := by
  obtain ⟨n, rfl, hn⟩ := bIn01 h
  rcases (show n = 0 ∨ n = 1 by omega) with rfl | rfl
  · exact ⟨false, rfl⟩
  · exact ⟨true, rfl⟩
theorem WF.cell (h : WF s) : zHi s * zWi s ≤ 16 ∧ 1 ≤ zHi s ∧ 1 ≤ zWi s ∧ zHi s < 5 ∧ zWi s < 5 := by
  have := p_ok_b h.1.2.2.2.2.1
  omega
theorem k_print (h : WF s) (x y z nu tn : Int32) : KEEP s (c_print s x y z nu tn) := by
  unfold c_print
  split
  · exact keep_l _ _
  · rename_i h1
    split
    · exact keep_l _ _
    · rw [Bool.not_eq_false, Bool.and_eq_true, Bool.and_eq_true, Bool.and_eq_true] at h1
      obtain ⟨⟨⟨h1, h2⟩, h3⟩, h4⟩ := h1
      obtain ⟨a, b, rfl, rfl, ha, hb⟩ := zCell_n h h1
      obtain ⟨c, rfl, hc⟩ := bIn01 h2
      have hz := h.cell
      have hat : zAt s (nI a) (nI b) (nI c) = 2 * (zWi s * a + b) + c := by rw [zAt, nI_clamp (by omega), nI_clamp (by omega), nI_clamp (by omega)]
      have hm : zWi s * a + zWi s ≤ zHi s * zWi s := by rw [Nat.mul_comm (zHi s)]; exact Nat.mul_le_mul_left (zWi s) (show a + 1 ≤ zHi s from ha)
      have hlt : 2 * (zWi s * a + b) + c < 32 := by omega
      rw [hat]
      exact keep_r (k_prS h _ hlt _ _ (nu_n h3) (tn_n h4)) (fun k hk => prS_n _ _ hlt _ _ _ (by omega))
theorem k_prA (ly : Nat → Lay) (sp n : Nat) (hly : ∀ t, t < n → (ly t).1 < 16) (hn : n ≤ 16) (h : WF s) : ∀ k, k ≤ 2 * n → WF (p_prA ly sp s k).1 ∧ (∀ j, j < 86 ∨ 154 ≤ j → (p_prA ly sp s k).1 j = s j)
  | 0, _ => ⟨h, fun _ _ => rfl⟩
  | k + 1, hk => by
    obtain ⟨i1, i2⟩ := k_prA ly sp n hly hn h k (by omega)
    have hlt : p_sd ly k < 32 := by
      unfold p_sd
      have := hly (k / 2) (by omega)
      have : (p_side (ly (k / 2)) != decide (k % 2 = 1)).toNat ≤ 1 := Bool.toNat_le _
      omega
    rw [p_prA]
    exact ⟨k_prS i1 _ hlt _ _ (Or.inr ⟨k, rfl, by omega⟩) ⟨_, rfl⟩, fun j hj => (prS_n _ _ hlt _ _ _ hj).trans (i2 j hj)⟩
theorem k_printAll (h : WF s) (x : Int32) : KEEP s (c_printAll s x) := by
  unfold c_printAll
  split
  · exact keep_l _ _
  · rename_i h1
    split
    · exact keep_l _ _
    · rw [Bool.not_eq_false] at h1
      unfold p_isRowI at h1
      rw [Bool.and_eq_true] at h1
      have hr := h1.2
      unfold p_isRow at hr
      simp only [Bool.and_eq_true, decide_eq_true_eq] at hr
      have hz := h.cell
      have hcan : p_cans (zHi s) (zWi s) (p_dig x.toNatClampNeg) (p_len x.toNatClampNeg) = true := by first | exact hr.1.2 | exact hr.2 | exact hr.1.1 | exact hr.2.1 | exact hr.1
      have := k_prA (zBy s x) (zN s 7) (zHi s * zWi s) (fun t ht => Nat.lt_of_lt_of_le (p_layn_cell h.1.2.2.2.2.1 _ hcan t ht) hz.1) hz.1 h (2 * (zHi s * zWi s)) (Nat.le_refl _)
      exact keep_r this.1 (fun k hk => this.2 k (by omega))
theorem p_ok_cs {hi wi : Nat} (h : p_ok hi wi 1 = true) : (hi = 1 ∨ hi = 2 ∨ hi = 4) ∧ (wi = 1 ∨ wi = 2 ∨ wi = 4) := by
  simp only [p_ok, Bool.and_eq_true, Bool.or_eq_true, beq_iff_eq] at h
  omega
theorem WF.sz (h : WF s) : 2 * (s 0 * s 1) - 1 = nI (2 * (zHi s * zWi s) - 1) := by
  have h1 := p_ok_cs h.1.2.2.2.2.1
  rw [h.1.1, h.1.2.1]
  generalize zHi s = a at *
  generalize zWi s = b at *
  rcases h1.1 with rfl | rfl | rfl <;> rcases h1.2 with rfl | rfl | rfl <;> rfl
theorem k_see (h : WF s) (x y z : Int32) : KEEP s (c_see s x y z) := by
  unfold c_see
  split
  · exact keep_l _ _
  · rename_i h1
    split
    · exact keep_l _ _
    · rename_i h5
      rw [Bool.not_eq_false, Bool.and_eq_true, Bool.and_eq_true, h.sz] at h1
      obtain ⟨⟨h1, h2⟩, h3⟩ := h1
      have hz := h.cell
      have hm : 1 ≤ zHi s * zWi s := Nat.mul_pos (by omega) (by omega)
      obtain ⟨a, rfl, -, ha⟩ := bIn_n (a := 0) (by omega) (by omega) h1
      obtain ⟨b, rfl, -, hb⟩ := bIn_n (a := 0) (b := 31) (by omega) (by omega) h2
      obtain ⟨c, rfl, hc⟩ := bIn01 h3
      have h12 := h.p12
      have h8 := h12.1.2
      generalize hn : zN s 12 = n at *
      generalize hs' : upd (upd (upd (upd s (13 + 3 * n) (nI a)) (13 + 3 * n + 1) (nI b)) (13 + 3 * n + 2) (nI c)) 12 (nI (n + 1)) = s'
      have qk : ∀ k, k ≠ 12 → ¬ (13 + 3 * n ≤ k ∧ k < 16 + 3 * n) → s' k = s k := fun k h1 h2 => by rw [← hs']; (intros; (repeat rw [upd_n _ _ (by omega)]))
      have q12 : s' 12 = nI (n + 1) := by rw [← hs', upd_s]
      have qa : s' (13 + 3 * n) = nI a := by rw [← hs', upd_n _ _ (by omega), upd_n _ _ (by omega), upd_n _ _ (by omega), upd_s]
      have qb : s' (14 + 3 * n) = nI b := by rw [← hs', upd_n _ _ (by omega), upd_n _ _ (by omega), show 14 + 3 * n = 13 + 3 * n + 1 by omega, upd_s]
      have qc : s' (15 + 3 * n) = nI c := by rw [← hs', upd_n _ _ (by omega), show 15 + 3 * n = 13 + 3 * n + 2 by omega, upd_s]
      refine keep_r (WF.of (h.p1.c fun k hk => qk k (by omega) (by omega)) (h.p7.c (qk 7 (by omega) (by omega))) (h.p8.c (qk 8 (by omega) (by omega))) (h.p9.c (qk 9 (by omega) (by omega))) (h.p10.c (qk 10 (by omega) (by omega))) (h.p11.c (qk 11 (by omega) (by omega))) ?_ (h.p37.c fun k _ _ => qk k (by omega) (by omega)) (h.p90.c fun k _ _ => qk k (by omega) (by omega))) (fun k hk => qk k (by omega) (by omega))
      unfold P12
      rw [show zHi s' = zHi s from zN_of (qk 0 (by omega) (by omega)), show zWi s' = zWi s from zN_of (qk 1 (by omega) (by omega)), zN_nI (by omega) q12]
      refine ⟨⟨q12, by omega⟩, fun k hk => ?_⟩
      by_cases q : k = n
      · subst q
        rw [zN_nI (by omega) qa, zN_nI (by omega) qb, zN_nI (by omega) qc]
        exact ⟨⟨qa, by omega⟩, ⟨qb, by omega⟩, ⟨qc, by omega⟩⟩
      · rw [zN_of (qk (13 + 3 * k) (by omega) (by omega)), qk (13 + 3 * k) (by omega) (by omega), zN_of (qk (14 + 3 * k) (by omega) (by omega)), qk (14 + 3 * k) (by omega) (by omega), zN_of (qk (15 + 3 * k) (by omega) (by omega)), qk (15 + 3 * k) (by omega) (by omega)]
        exact h12.2 k (by omega)
theorem k_forget (h : WF s) : KEEP s (c_forget s) := by
  unfold c_forget
  generalize hs' : upd s 12 0 = s'
  have qk : ∀ k, k ≠ 12 → s' k = s k := fun k h1 => by rw [← hs']; (intros; (repeat rw [upd_n _ _ (by omega)]))
  have q12 : s' 12 = nI 0 := by rw [← hs', upd_s]; rfl
  refine keep_r (WF.of (h.p1.c fun k hk => qk k (by omega)) (h.p7.c (qk 7 (by omega))) (h.p8.c (qk 8 (by omega))) (h.p9.c (qk 9 (by omega))) (h.p10.c (qk 10 (by omega))) (h.p11.c (qk 11 (by omega))) ?_ (h.p37.c fun k _ _ => qk k (by omega)) (h.p90.c fun k _ _ => qk k (by omega))) (fun k hk => qk k (by omega))
  unfold P12
  rw [zN_nI (by omega) q12]
  exact ⟨⟨q12, by omega⟩, fun k hk => by omega⟩
theorem k_addNote (h : WF s) (x y z w : Int32) : KEEP s (c_addNote s x y z w) := by
  unfold c_addNote
  split
  · exact keep_l _ _
  · rename_i h1
    split
    · exact keep_l _ _
    · rename_i h5
      rw [Bool.not_eq_false, Bool.and_eq_true, Bool.and_eq_true, Bool.and_eq_true] at h1
      obtain ⟨⟨⟨h1, h2⟩, h3⟩, h4⟩ := h1
      obtain ⟨a, rfl, -, ha⟩ := bIn_n (a := 0) (b := 99) (by omega) (by omega) h1
      obtain ⟨b, rfl, -, hb⟩ := bIn_n (a := 0) (b := 9) (by omega) (by omega) h2
      obtain ⟨e, rfl, he1, he⟩ := bIn_n (a := 1) (b := 20) (by omega) (by omega) h3
      obtain ⟨c, rfl, hc⟩ := bIn01 h4
      have h12 := h.p37
      have h8 := h12.1.2
      generalize hn : zN s 37 = n at *
      generalize hs' : upd (upd (upd (upd (upd s (38 + 4 * n) (nI a)) (38 + 4 * n + 1) (nI b)) (38 + 4 * n + 2) (nI e)) (38 + 4 * n + 3) (nI c)) 37 (nI (n + 1)) = s'
      have qk : ∀ k, k ≠ 37 → ¬ (38 + 4 * n ≤ k ∧ k < 42 + 4 * n) → s' k = s k := fun k h1 h2 => by rw [← hs']; (intros; (repeat rw [upd_n _ _ (by omega)]))
      have q12 : s' 37 = nI (n + 1) := by rw [← hs', upd_s]
      have qa : s' (38 + 4 * n) = nI a := by rw [← hs', upd_n _ _ (by omega), upd_n _ _ (by omega), upd_n _ _ (by omega), upd_n _ _ (by omega), upd_s]
      have qb : s' (39 + 4 * n) = nI b := by rw [← hs', upd_n _ _ (by omega), upd_n _ _ (by omega), upd_n _ _ (by omega), show 39 + 4 * n = 38 + 4 * n + 1 by omega, upd_s]
      have qe : s' (40 + 4 * n) = nI e := by rw [← hs', upd_n _ _ (by omega), upd_n _ _ (by omega), show 40 + 4 * n = 38 + 4 * n + 2 by omega, upd_s]
      have qc : s' (41 + 4 * n) = nI c := by rw [← hs', upd_n _ _ (by omega), show 41 + 4 * n = 38 + 4 * n + 3 by omega, upd_s]
      refine keep_r (WF.of (h.p1.c fun k hk => qk k (by omega) (by omega)) (h.p7.c (qk 7 (by omega) (by omega))) (h.p8.c (qk 8 (by omega) (by omega))) (h.p9.c (qk 9 (by omega) (by omega))) (h.p10.c (qk 10 (by omega) (by omega))) (h.p11.c (qk 11 (by omega) (by omega))) (h.p12.c (qk 0 (by omega) (by omega)) (qk 1 (by omega) (by omega)) fun k _ _ => qk k (by omega) (by omega)) ?_ (h.p90.c fun k _ _ => qk k (by omega) (by omega))) (fun k hk => qk k (by omega) (by omega))
      unfold P37
      rw [zN_nI (by omega) q12]
      refine ⟨⟨q12, by omega⟩, fun k hk => ?_⟩
      by_cases q : k = n
      · subst q
        rw [zN_nI (by omega) qa, zN_nI (by omega) qb, zN_nI (by omega) qc, zN_nI (by omega) qe]
        exact ⟨⟨qa, by omega⟩, ⟨qb, by omega⟩, ⟨qe, by omega, by omega⟩, ⟨qc, by omega⟩⟩
      · rw [zN_of (qk (38 + 4 * k) (by omega) (by omega)), qk (38 + 4 * k) (by omega) (by omega), zN_of (qk (39 + 4 * k) (by omega) (by omega)), qk (39 + 4 * k) (by omega) (by omega), zN_of (qk (40 + 4 * k) (by omega) (by omega)), qk (40 + 4 * k) (by omega) (by omega), zN_of (qk (41 + 4 * k) (by omega) (by omega)), qk (41 + 4 * k) (by omega) (by omega)]
        exact h12.2 k (by omega)
theorem k_removeNote (h : WF s) (x : Int32) : KEEP s (c_removeNote s x) := by
  unfold c_removeNote
  split
  · exact keep_l _ _
  · rename_i h1
    have h12 := h.p37
    have h8 := h12.1.2
    generalize hx : x.toNatClampNeg = i
    generalize hn : zN s 37 = n at *
    generalize hs' : (fun k => if 38 + 4 * i ≤ k ∧ k < 38 + 4 * (n - 1) then s (k + 4) else if k = 37 then nI (n - 1) else s k) = s'
    have qk : ∀ k, k ≠ 37 → ¬ (38 + 4 * i ≤ k ∧ k < 38 + 4 * (n - 1)) → s' k = s k := fun k h1 h2 => by rw [← hs']; show (if _ then _ else _) = _; rw [if_neg h2, if_neg h1]
    have qs : ∀ k, 38 + 4 * i ≤ k → k < 38 + 4 * (n - 1) → s' k = s (k + 4) := fun k h1 h2 => by rw [← hs']; show (if _ then _ else _) = _; rw [if_pos ⟨h1, h2⟩]
    have q12 : s' 37 = nI (n - 1) := by rw [← hs']; show (if _ then _ else _) = _; rw [if_neg (by omega), if_pos rfl]
    refine keep_r (WF.of (h.p1.c fun k hk => qk k (by omega) (by omega)) (h.p7.c (qk 7 (by omega) (by omega))) (h.p8.c (qk 8 (by omega) (by omega))) (h.p9.c (qk 9 (by omega) (by omega))) (h.p10.c (qk 10 (by omega) (by omega))) (h.p11.c (qk 11 (by omega) (by omega))) (h.p12.c (qk 0 (by omega) (by omega)) (qk 1 (by omega) (by omega)) fun k _ _ => qk k (by omega) (by omega)) ?_ (h.p90.c fun k _ _ => qk k (by omega) (by omega))) (fun k hk => qk k (by omega) (by omega))
    unfold P37
    rw [zN_nI (by omega) q12]
    refine ⟨⟨q12, by omega⟩, fun k hk => ?_⟩
    by_cases q : k < i
    · rw [zN_of (qk (38 + 4 * k) (by omega) (by omega)), qk (38 + 4 * k) (by omega) (by omega), zN_of (qk (39 + 4 * k) (by omega) (by omega)), qk (39 + 4 * k) (by omega) (by omega), zN_of (qk (40 + 4 * k) (by omega) (by omega)), qk (40 + 4 * k) (by omega) (by omega), zN_of (qk (41 + 4 * k) (by omega) (by omega)), qk (41 + 4 * k) (by omega) (by omega)]
      exact h12.2 k (by omega)
    · have e0 : s' (38 + 4 * k) = s (38 + 4 * (k + 1)) := qs _ (by omega) (by omega)
      have e1 : s' (39 + 4 * k) = s (39 + 4 * (k + 1)) := qs _ (by omega) (by omega)
      have e2 : s' (40 + 4 * k) = s (40 + 4 * (k + 1)) := qs _ (by omega) (by omega)
      have e3 : s' (41 + 4 * k) = s (41 + 4 * (k + 1)) := qs _ (by omega) (by omega)
      have z0 : zN s' (38 + 4 * k) = zN s (38 + 4 * (k + 1)) := by unfold zN; rw [e0]
      have z1 : zN s' (39 + 4 * k) = zN s (39 + 4 * (k + 1)) := by unfold zN; rw [e1]
      have z2 : zN s' (40 + 4 * k) = zN s (40 + 4 * (k + 1)) := by unfold zN; rw [e2]
      have z3 : zN s' (41 + 4 * k) = zN s (41 + 4 * (k + 1)) := by unfold zN; rw [e3]
      rw [z0, z1, z2, z3, e0, e1, e2, e3]
      exact h12.2 (k + 1) (by omega)
/-- a row with its two snapshots -/
def WS (s : Row) : Prop := WF s ∧ ∀ x, x < 2 → s (154 + x) = 0 ∨ (s (154 + x) = 1 ∧ WF (fun k => s (156 + 154 * x + k)))
theorem WS.c (h : WS s) (e : ∀ k, k < 464 → s' k = s k) : WS s' := by
  refine ⟨h.1.c fun k hk _ => e k (by omega), fun x hx => ?_⟩
  rcases h.2 x hx with q | ⟨q, w⟩
  · exact Or.inl ((e _ (by omega)).trans q)
  · exact Or.inr ⟨(e _ (by omega)).trans q, w.c fun k hk _ => e _ (by omega)⟩
def KS (r : CRes) : Prop := ∀ x s', r = .inr (x, s') → WS s'
theorem KEEP.ks {r : CRes} (h : WS s) (k : KEEP s r) : KS r := fun x s' q => by
  obtain ⟨a, b⟩ := k x s' q
  refine ⟨a, fun y hy => ?_⟩
  rw [b _ (by omega)]
  rcases h.2 y hy with q | ⟨q, w⟩
  · exact Or.inl q
  · exact Or.inr ⟨q, w.c fun k hk _ => b _ (by omega)⟩
theorem k_take (h : WS s) (x : Int32) : KS (c_take s x) := by
  unfold c_take
  split
  · intro _ _ q; cases q
  · rename_i h1
    obtain ⟨n, rfl, hn⟩ := bIn01 (Bool.not_eq_false _ ▸ h1)
    rw [nI_clamp (by omega)]
    intro x s' q
    injection q with q
    injection q with _ q
    have q1 : ∀ k, 156 + 154 * n ≤ k → k < 156 + 154 * n + 154 → s' k = s (k - (156 + 154 * n)) := fun k a b => by rw [← q]; show (if _ then _ else _) = _; rw [if_pos ⟨a, b⟩]
    have q2 : s' (154 + n) = 1 := by rw [← q]; show (if _ then _ else _) = _; rw [if_neg (by omega), if_pos rfl]
    have q3 : ∀ k, k ≠ 154 + n → ¬ (156 + 154 * n ≤ k ∧ k < 156 + 154 * n + 154) → s' k = s k := fun k a b => by rw [← q]; show (if _ then _ else _) = _; rw [if_neg b, if_neg a]
    refine ⟨h.1.c fun k hk _ => q3 k (by omega) (by omega), fun y hy => ?_⟩
    by_cases e : y = n
    · subst e
      refine Or.inr ⟨q2, h.1.c fun k hk _ => ?_⟩
      show s' (156 + 154 * y + k) = s k
      rw [q1 _ (by omega) (by omega)]; congr 1; omega
    · rw [q3 (154 + y) (by omega) (by omega)]
      rcases h.2 y hy with q | ⟨q, w⟩
      · exact Or.inl q
      · exact Or.inr ⟨q, w.c fun k hk _ => q3 _ (by omega) (by omega)⟩
theorem k_restore (h : WS s) (x : Int32) : KS (c_restore s x) := by
  unfold c_restore
  split
  · intro _ _ q; cases q
  · rename_i h1
    split
    · intro _ _ q; cases q
    · rename_i h2
      obtain ⟨n, rfl, hn⟩ := bIn01 (Bool.not_eq_false _ ▸ h1)
      rw [nI_clamp (by omega)] at h2 ⊢
      intro x s' q
      injection q with q
      injection q with _ q
      have q1 : ∀ k, k < 154 → s' k = s (156 + 154 * n + k) := fun k a => by rw [← q]; show (if _ then _ else _) = _; rw [if_pos a]
      have q3 : ∀ k, 154 ≤ k → s' k = s k := fun k a => by rw [← q]; show (if _ then _ else _) = _; rw [if_neg (by omega)]
      refine ⟨?_, fun y hy => ?_⟩
      · rcases h.2 n hn with q | ⟨q, w⟩
        · exact absurd q h2
        · exact w.c fun k hk _ => q1 k hk
      · rw [q3 (154 + y) (by omega)]
        rcases h.2 y hy with q | ⟨q, w⟩
        · exact Or.inl q
        · exact Or.inr ⟨q, w.c fun k hk _ => q3 _ (by omega)⟩
/-- the history: u rows -/
def HS (u : Nat) (b : Row) : Prop := ∀ j, j < u → WS (fun k => b (464 * j + k))
theorem HS.rec_ {u : Nat} {b : Row} (hu : u ≤ 5) (h : HS u b) (hs : WS s) : HS (p_recN u + 1) (p_recB u b s) := by
  intro j hj
  by_cases e : j = p_recN u
  · subst e
    refine hs.c fun k hk => ?_
    show p_recB u b s _ = _
    unfold p_recB p_push
    rw [if_pos (by omega)]; congr 1; omega
  · unfold p_recN at hj e
    split at hj
    · rename_i h5
      rw [if_pos h5] at e
      refine (h (j + 1) (by omega)).c fun k hk => ?_
      show p_recB u b s _ = b _
      unfold p_recB p_push p_recN p_shift
      rw [if_pos h5, if_pos h5, if_neg (by omega), if_pos (by omega)]; congr 1; omega
    · rename_i h5
      rw [if_neg h5] at e
      refine (h j (by omega)).c fun k hk => ?_
      show p_recB u b s _ = b _
      unfold p_recB p_push p_recN
      rw [if_neg h5, if_neg h5, if_neg (by omega)]
theorem HS.und {u : Nat} {b : Row} (h : HS (u + 1) b) : WS (p_und s b u 464) := (h u (by omega)).c fun k hk => by
  show p_und s b u 464 k = b _
  unfold p_und; rw [if_pos hk]
end WFKEEP2

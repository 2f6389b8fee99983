/-! pieces: merging along joints -/
section PIECE
set_option maxRecDepth 100000
theorem p_cB_lo (k : Nat) : ∀ n, p_cB k (n + 1) = k % 2 + p_cB (k / 2) n
  | 0 => by
    show (0 + if k.testBit 0 then 1 else 0) = k % 2 + 0
    rw [Nat.testBit_zero]
    rcases Nat.mod_two_eq_zero_or_one k with e | e <;> simp [e]
  | n + 1 => by
    have ih := p_cB_lo k n
    have e1 : p_cB k (n + 1 + 1) = p_cB k (n + 1) + (if k.testBit (n + 1) then 1 else 0) := rfl
    have e2 : p_cB (k / 2) (n + 1) = p_cB (k / 2) n + (if (k / 2).testBit n then 1 else 0) := rfl
    rw [e1, e2, ih, Nat.testBit_succ, Nat.add_assoc]
theorem ones_cB : ∀ n k, p_ones n k = p_cB k n
  | 0, _ => rfl
  | n + 1, k => by rw [p_ones, p_cB_lo, ones_cB n]
/-- how many labels there are among the first n -/
def lbl (P : Nat → Nat) (n : Nat) : Nat := p_ones 16 (orN (fun k => 2 ^ P k) n)
theorem orP_bit {P : Nat → Nat} {n b : Nat} : (orN (fun k => 2 ^ P k) n).testBit b = true ↔ ∃ k, k < n ∧ P k = b := by
  rw [orN_bit]; simp only [pow_bit]
theorem lbl_s {P : Nat → Nat} {n : Nat} (hP : P n < 16) : lbl P (n + 1) = lbl P n + (if (orN (fun k => 2 ^ P k) n).testBit (P n) then 0 else 1) := by
  unfold lbl
  rw [orN, ones_cB, ones_cB]
  by_cases q : (orN (fun k => 2 ^ P k) n).testBit (P n) = true
  · have e : orN (fun k => 2 ^ P k) n ||| 2 ^ P n = orN (fun k => 2 ^ P k) n := by
      apply Nat.eq_of_testBit_eq
      intro i
      rw [or_bit]
      by_cases w : P n = i
      · rw [← w, q]; simp
      · simp [w]
    rw [e, if_pos q, Nat.add_zero]
  · rw [p_cB_or (by simpa using q), if_pos hP, if_neg q]
theorem lbl_ker {P P' : Nat → Nat} : ∀ n, (∀ k, k < n → P k < 16 ∧ P' k < 16) → (∀ i j, i < n → j < n → (P i = P j ↔ P' i = P' j)) → lbl P n = lbl P' n
  | 0, _, _ => rfl
  | n + 1, h, hk => by
    rw [lbl_s (h n (by omega)).1, lbl_s (h n (by omega)).2, lbl_ker n (fun k q => h k (by omega)) (fun i j q w => hk i j (by omega) (by omega))]
    congr 1
    have : (orN (fun k => 2 ^ P k) n).testBit (P n) = (orN (fun k => 2 ^ P' k) n).testBit (P' n) := by
      rw [Bool.eq_iff_iff, orP_bit, orP_bit]
      constructor
      · rintro ⟨k, h1, h2⟩; exact ⟨k, h1, (hk k n (by omega) (by omega)).mp h2⟩
      · rintro ⟨k, h1, h2⟩; exact ⟨k, h1, (hk k n (by omega) (by omega)).mpr h2⟩
    rw [this]
theorem lbl_id : ∀ n, n ≤ 16 → lbl (fun k => k) n = n
  | 0, _ => rfl
  | n + 1, h => by
    rw [lbl_s (by omega), lbl_id n (by omega), if_neg]
    rw [orP_bit]; rintro ⟨k, h1, h2⟩; omega
theorem cB_and {x b : Nat} (hx : x.testBit b = true) : ∀ n y, (∀ i, y.testBit i = (x.testBit i && decide (i ≠ b))) → p_cB y n + (if b < n then 1 else 0) = p_cB x n
  | 0, _, _ => rfl
  | n + 1, y, h => by
    have ih := cB_and hx n y h
    have e1 : p_cB y (n + 1) = p_cB y n + (if y.testBit n then 1 else 0) := rfl
    have e2 : p_cB x (n + 1) = p_cB x n + (if x.testBit n then 1 else 0) := rfl
    rw [e1, e2, ← ih, h n]
    by_cases q : n = b
    · subst q; rw [hx]; simp
    · by_cases w : b < n
      · rw [if_pos w, if_pos (show b < n + 1 by omega)]; simp [q]; omega
      · rw [if_neg w, if_neg (show ¬ b < n + 1 by omega)]; simp [q]
/-- merging takes one label away, or none -/
theorem lbl_jn {P : Nat → Nat} {n x y : Nat} (hx : x < n) (hy : y < n) (hP : ∀ k, k < n → P k < 16) (hne : P x ≠ P y) : lbl (p_jn P (P x) (P y)) n + 1 = lbl P n := by
  unfold lbl
  rw [ones_cB, ones_cB]
  have := cB_and (x := orN (fun k => 2 ^ P k) n) (b := P y) (orP_bit.mpr ⟨y, hy, rfl⟩) 16 (orN (fun k => 2 ^ p_jn P (P x) (P y) k) n) (fun i => by
    rw [Bool.eq_iff_iff, Bool.and_eq_true, orP_bit, orP_bit, decide_eq_true_eq]
    constructor
    · rintro ⟨k, h1, h2⟩
      unfold p_jn at h2
      split at h2
      · exact ⟨⟨x, hx, h2⟩, fun e => hne (h2.trans e)⟩
      · rename_i q; exact ⟨⟨k, h1, h2⟩, fun e => q (h2.trans e)⟩
    · rintro ⟨⟨k, h1, h2⟩, h3⟩
      refine ⟨k, h1, ?_⟩
      unfold p_jn; rw [if_neg (fun e => h3 (h2.symm.trans e))]; exact h2)
  rw [if_pos (hP y hy)] at this
  exact this
theorem jn_same {P : Nat → Nat} {a : Nat} : p_jn P a a = P := by
  funext k; unfold p_jn; split
  · next e => exact e.symm
  · rfl
def mgF (P : Nat → Nat) (E : List (Nat × Nat)) : Nat → Nat := E.foldl (fun P x => p_jn P (P x.1) (P x.2)) P
theorem mgF_app (P : Nat → Nat) (a b : List (Nat × Nat)) : mgF P (a ++ b) = mgF (mgF P a) b := List.foldl_append
theorem mgF_lt {n : Nat} : ∀ (E : List (Nat × Nat)) (P : Nat → Nat), (∀ k, k < n → P k < n) → (∀ x ∈ E, x.1 < n) → ∀ k, k < n → mgF P E k < n
  | [], _, h, _ => h
  | x :: r, P, h, he => mgF_lt r _ (p_jn_lt h (h _ (he x (by simp)))) (fun y hy => he y (by simp [hy]))
theorem jn_ker {P : Nat → Nat} {x y i j : Nat} (h : P i = P j) : p_jn P (P x) (P y) i = p_jn P (P x) (P y) j := by unfold p_jn; rw [h]
theorem jn_xy {P : Nat → Nat} {x y : Nat} : p_jn P (P x) (P y) x = p_jn P (P x) (P y) y := by
  unfold p_jn; rw [if_pos (c := P y = P y) rfl]; split <;> rfl
theorem mgF_keep : ∀ (E : List (Nat × Nat)) (P : Nat → Nat) {i j : Nat}, P i = P j → mgF P E i = mgF P E j
  | [], _, _, _, h => h
  | x :: r, P, i, j, h => mgF_keep r (p_jn P (P x.1) (P x.2)) (jn_ker h)
theorem mgF_edge : ∀ (E : List (Nat × Nat)) (P : Nat → Nat) (x : Nat × Nat), x ∈ E → mgF P E x.1 = mgF P E x.2
  | y :: r, P, x, h => by
    rcases List.mem_cons.mp h with rfl | h
    · exact mgF_keep r (p_jn P (P x.1) (P x.2)) jn_xy
    · exact mgF_edge r _ x h
theorem mgF_least {Q : Nat → Nat} {n : Nat} : ∀ (E : List (Nat × Nat)) (P : Nat → Nat), (∀ i j, i < n → j < n → P i = P j → Q i = Q j) → (∀ x ∈ E, x.1 < n ∧ x.2 < n ∧ Q x.1 = Q x.2) → ∀ i j, i < n → j < n → mgF P E i = mgF P E j → Q i = Q j
  | [], _, h, _, i, j, hi, hj, e => h i j hi hj e
  | x :: r, P, h, he, i, j, hi, hj, e => by
    obtain ⟨x1, x2, x3⟩ := he x (by simp)
    refine mgF_least r (p_jn P (P x.1) (P x.2)) (fun a b ha hb q => ?_) (fun y hy => he y (by simp [hy])) i j hi hj e
    unfold p_jn at q
    split at q <;> split at q
    · next e1 e2 => exact h a b ha hb (e1.trans e2.symm)
    · next e1 e2 => exact (h a x.2 ha x2 e1).trans (x3.symm.trans (h x.1 b x1 hb q))
    · next e1 e2 => exact (h a x.1 ha x1 q).trans (x3.trans (h x.2 b x2 hb e2.symm))
    · exact h a b ha hb q
/-- the reference's order -/
def prA (op : Nat → Nat → Bool) (i : Nat) : Nat → List (Nat × Nat)
  | 0 => []
  | k + 1 => prA op i k ++ (if op i (i + 1 + k) then [(i, i + 1 + k)] else [])
def prB (op : Nat → Nat → Bool) (n : Nat) : Nat → List (Nat × Nat)
  | 0 => []
  | i + 1 => prB op n i ++ prA op i (n - (i + 1))
theorem prA_eq (op : Nat → Nat → Bool) (i : Nat) (P : Nat → Nat) : ∀ k, p_jA op i P k = mgF P (prA op i k)
  | 0 => rfl
  | k + 1 => by
    rw [p_jA, prA, mgF_app, prA_eq op i P k]
    split <;> rfl
theorem prB_eq (op : Nat → Nat → Bool) (n : Nat) (P : Nat → Nat) : ∀ i, p_jB op n P i = mgF P (prB op n i)
  | 0 => rfl
  | i + 1 => by rw [p_jB, prB, mgF_app, prA_eq, prB_eq op n P i]
theorem prA_mem {op : Nat → Nat → Bool} {i : Nat} {x : Nat × Nat} : ∀ k, x ∈ prA op i k ↔ x.1 = i ∧ i < x.2 ∧ x.2 < i + 1 + k ∧ op i x.2 = true
  | 0 => by simp only [prA, List.not_mem_nil, false_iff]; omega
  | k + 1 => by
    rw [prA, List.mem_append, prA_mem k]
    obtain ⟨a, b⟩ := x
    constructor
    · rintro (⟨h1, h2, h3, h4⟩ | h)
      · exact ⟨h1, h2, by omega, h4⟩
      · split at h
        · simp at h; obtain ⟨rfl, rfl⟩ := h; exact ⟨rfl, by omega, by omega, by assumption⟩
        · simp at h
    · rintro ⟨h1, h2, h3, h4⟩
      simp only at h1 h2 h3 h4
      by_cases q : b = i + 1 + k
      · right; rw [← q, if_pos h4]; simp [h1]
      · left; exact ⟨h1, h2, by simp only; omega, h4⟩
theorem prB_mem {op : Nat → Nat → Bool} {n : Nat} {x : Nat × Nat} : ∀ m, m ≤ n → (x ∈ prB op n m ↔ x.1 < m ∧ x.1 < x.2 ∧ x.2 < n ∧ op x.1 x.2 = true)
  | 0, _ => by simp [prB]
  | m + 1, hm => by
    rw [prB, List.mem_append, prB_mem m (by omega), prA_mem]
    constructor
    · rintro (⟨h1, h2, h3, h4⟩ | ⟨h1, h2, h3, h4⟩)
      · exact ⟨by omega, h2, h3, h4⟩
      · exact ⟨by omega, by omega, by omega, by rw [h1]; exact h4⟩
    · rintro ⟨h1, h2, h3, h4⟩
      by_cases q : x.1 = m
      · exact Or.inr ⟨q, by omega, by omega, by rw [← q]; exact h4⟩
      · exact Or.inl ⟨by omega, h2, h3, h4⟩
/-- the class's order: joints that are held, then the leaves that are stapled -/
def heldE (c : Nat) (J : List Jt) : List (Nat × Nat) := (J.filter (jHas c)).map (fun x => (x.1, x.2.1))
def stpE : Nat → List (Nat × Nat)
  | 0 => []
  | k + 1 => stpE k ++ (if 1 ≤ k then [(k - 1, k)] else [])
theorem stpE_mem {x : Nat × Nat} : ∀ n, x ∈ stpE n ↔ x.2 < n ∧ 1 ≤ x.2 ∧ x.1 = x.2 - 1
  | 0 => by simp [stpE]
  | n + 1 => by
    rw [stpE, List.mem_append, stpE_mem n]
    obtain ⟨a, b⟩ := x
    by_cases q : 1 ≤ n
    · rw [if_pos q]; simp; omega
    · rw [if_neg q]; simp; omega
theorem pieces_eq {wi n c held st : Nat} {ly : Nat → Lay} {J : List Jt} (hp : (jP wi ly n n).Perm J) (hn : n ≤ 16) (h1 : 1 ≤ held) (hst : ∀ k, k < n → (k < st ↔ (k < held ∧ 1 < held)) ∨ k = 0) (hst2 : st ≤ n) :
    lbl (mgF (fun k => k) (heldE c J ++ stpE st)) n = lbl (p_jB (fun i j => p_open c (p_edge wi ly i j)) n (fun k => if k < held then 0 else k) n) n := by
  rw [prB_eq]
  have hop : ∀ i j, p_open c (p_edge wi ly i j) = true ↔ ∃ e, p_edge wi ly i j = some e ∧ c.testBit e = false := fun i j => by
    cases p_edge wi ly i j with
    | none => simp [p_open]
    | some e => simp [p_open]
  have hE : ∀ x ∈ heldE c J, x.1 < n ∧ x.2 < n ∧ x.1 < x.2 ∧ p_open c (p_edge wi ly x.1 x.2) = true := fun x hx => by
    simp only [heldE, List.mem_map, List.mem_filter] at hx
    obtain ⟨y, ⟨hy, hc⟩, rfl⟩ := hx
    have := (jP_mem n (Nat.le_refl _)).mp (hp.mem_iff.mpr hy)
    exact ⟨by simp only; omega, this.2.2.1, this.2.1, (hop _ _).mpr ⟨y.2.2, this.2.2.2, by simpa [jHas] using hc⟩⟩
  have hS : ∀ x ∈ stpE st, x.1 < n ∧ x.2 < n := fun x hx => by rw [stpE_mem] at hx; omega
  have hR : ∀ x ∈ prB (fun i j => p_open c (p_edge wi ly i j)) n n, x.1 < n ∧ x.2 < n ∧ ((x.1, x.2) ∈ heldE c J) := fun x hx => by
    rw [prB_mem n (Nat.le_refl _)] at hx
    obtain ⟨e, h3, h4⟩ := (hop _ _).mp hx.2.2.2
    refine ⟨hx.1, hx.2.2.1, ?_⟩
    simp only [heldE, List.mem_map, List.mem_filter]
    exact ⟨(x.1, x.2, e), ⟨hp.mem_iff.mp ((jP_mem n (Nat.le_refl _)).mpr ⟨hx.1, hx.2.1, hx.2.2.1, h3⟩), by simp [jHas, h4]⟩, rfl⟩
  have hA : ∀ x ∈ heldE c J ++ stpE st, x.1 < n := fun x hx => by
    rcases List.mem_append.mp hx with h | h
    · exact (hE x h).1
    · exact (hS x h).1
  refine lbl_ker n (fun k hk => ⟨?_, ?_⟩) (fun i j hi hj => ⟨fun e => ?_, fun e => ?_⟩)
  · exact Nat.lt_of_lt_of_le (mgF_lt _ _ (fun _ q => q) hA k hk) hn
  · exact Nat.lt_of_lt_of_le (mgF_lt _ _ (fun k q => by split <;> omega) (fun x hx => (hR x hx).1) k hk) hn
  · refine mgF_least (n := n) _ _ (fun i j _ _ q => ?_) (fun x hx => ?_) i j hi hj e
    · exact congrArg _ q
    · rcases List.mem_append.mp hx with h | h
      · obtain ⟨a1, a2, a3, a4⟩ := hE x h
        exact ⟨a1, a2, mgF_edge _ _ x ((prB_mem n (Nat.le_refl _)).mpr ⟨a1, a3, a2, a4⟩)⟩
      · have := hS x h
        rw [stpE_mem] at h
        refine ⟨this.1, this.2, mgF_keep _ _ ?_⟩
        have q2 := (hst x.2 this.2).resolve_right (by omega)
        have := q2.mp h.1
        rw [if_pos (by omega), if_pos this.1]
  · refine mgF_least (n := n) _ _ (fun i j hi hj q => ?_) (fun x hx => ?_) i j hi hj e
    · have key : ∀ k, k < n → k < held → mgF (fun k => k) (heldE c J ++ stpE st) k = mgF (fun k => k) (heldE c J ++ stpE st) 0 := by
        intro k
        induction k with
        | zero => intro _ _; rfl
        | succ k ih =>
          intro h2 h3
          have h4 := ih (by omega) (by omega)
          have q2 := (hst (k + 1) h2).resolve_right (by omega)
          have := mgF_edge (heldE c J ++ stpE st) (fun k => k) (k, k + 1) (List.mem_append.mpr (Or.inr ((stpE_mem st).mpr ⟨q2.mpr ⟨h3, by omega⟩, by simp, rfl⟩)))
          exact this.symm.trans h4
      split at q <;> split at q
      · next a b => rw [key i hi a, key j hj b]
      · next a b => rw [← q] at b; omega
      · next a b => rw [q] at a; omega
      · rw [q]
    · obtain ⟨a1, a2, a3⟩ := hR x hx
      exact ⟨a1, a2, mgF_edge _ _ _ (List.mem_append.mpr (Or.inl a3))⟩
/-- two leaves' joint -/
def jTog (c a b : Nat) (x : Jt) : Nat := if decide (x.1 = min a b ∧ x.2.1 = max a b) && jHas c x then 2 ^ x.2.2 else 0
theorem p_edge_comm {wi n i j : Nat} {ly : Nat → Lay} (hl : ∀ t, t < n → lfA ly n (ly t).1 = t) (hi : i < n) (hj : j < n) : p_edge wi ly i j = p_edge wi ly j i := by
  by_cases h : i = j
  · rw [h]
  · have hne : (ly i).1 ≠ (ly j).1 := fun e => h (by rw [← hl i hi, ← hl j hj, e])
    have e : p_fst ly i j = p_fst ly j i := by unfold p_fst; split <;> split <;> omega
    unfold p_edge
    rw [e, Nat.add_comm j i]
theorem tog_eq {wi n c a b : Nat} {ly : Nat → Lay} {J : List Jt} (hp : (jP wi ly n n).Perm J) (hl : ∀ t, t < n → lfA ly n (ly t).1 = t) (ha : a < n) (hb : b < n) (hab : a ≠ b) : orL (jTog c a b) J = (match p_edge wi ly a b with | none => 0 | some k => if c.testBit k then 0 else 2 ^ k) := by
  have he : p_edge wi ly a b = p_edge wi ly (min a b) (max a b) := by
    rcases Nat.le_total a b with q | q
    · rw [Nat.min_eq_left q, Nat.max_eq_right q]
    · rw [Nat.min_eq_right q, Nat.max_eq_left q, p_edge_comm hl ha hb]
  apply Nat.eq_of_testBit_eq
  intro i
  rw [Bool.eq_iff_iff, orL_bit, he]
  constructor
  · rintro ⟨x, hx, hb⟩
    have hx := (jP_mem n (Nat.le_refl _)).mp (hp.mem_iff.mpr hx)
    unfold jTog at hb
    split at hb
    · rename_i q
      rw [pow_bit] at hb
      simp only [jHas, Bool.and_eq_true, Bool.not_eq_true', decide_eq_true_eq] at q
      rw [← q.1.1, ← q.1.2, hx.2.2.2]
      simp only [q.2]
      exact pow_bit.mpr hb
    · simp at hb
  · intro h
    cases hq : p_edge wi ly (min a b) (max a b) with
    | none => rw [hq] at h; simp at h
    | some k =>
      rw [hq] at h
      simp only at h
      split at h
      · simp at h
      · rename_i q
        rw [pow_bit] at h
        refine ⟨(min a b, max a b, k), hp.mem_iff.mp ((jP_mem n (Nat.le_refl _)).mpr ⟨by show min a b < n; omega, by show min a b < max a b; omega, by show max a b < n; omega, hq⟩), ?_⟩
        unfold jTog
        rw [if_pos (by simp [jHas, q])]
        exact pow_bit.mpr h
/-- edges but the spine's -/
theorem oth_eq {wi n se : Nat} {ly : Nat → Lay} {J : List Jt} (hp : (jP wi ly n n).Perm J) : ∀ b, (orN (fun i => orN (fun j => p_bit 0 se (p_edge wi ly i (i + 1 + j))) (n - (i + 1))) n).testBit b = ((orL (fun x => 2 ^ x.2.2) J).testBit b && decide (b ≠ se)) := by
  intro b
  rw [Bool.eq_iff_iff, Bool.and_eq_true, orN_bit, orL_bit, decide_eq_true_eq]
  constructor
  · rintro ⟨i, h1, h2⟩
    rw [orN_bit] at h2
    obtain ⟨j, h3, h4⟩ := h2
    rw [p_bit_bit] at h4
    exact ⟨⟨(i, i + 1 + j, b), hp.mem_iff.mp ((jP_mem n (Nat.le_refl _)).mpr ⟨h1, by show i < i + 1 + j; omega, by show i + 1 + j < n; omega, h4.1⟩), pow_bit.mpr rfl⟩, h4.2.2⟩
  · rintro ⟨⟨x, hx, hb⟩, h2⟩
    have hx := (jP_mem n (Nat.le_refl _)).mp (hp.mem_iff.mpr hx)
    rw [pow_bit] at hb
    refine ⟨x.1, hx.1, ?_⟩
    rw [orN_bit]
    refine ⟨x.2.1 - (x.1 + 1), by omega, ?_⟩
    rw [p_bit_bit, show x.1 + 1 + (x.2.1 - (x.1 + 1)) = x.2.1 by omega, ← hb]
    exact ⟨hx.2.2.2, by simp, by rw [hb]; exact h2⟩
end PIECE

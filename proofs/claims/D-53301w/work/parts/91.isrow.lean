/-! whether a number's figures make a booklet: across and down counted -/
section ISROW
set_option maxRecDepth 100000
def acr (F : Nat → Nat) (n : Nat) : Nat := smN (fun k => if F k < 3 then 1 else 0) n
def dwn (F : Nat → Nat) (n : Nat) : Nat := smN (fun k => if F k < 3 then 0 else 1) n
theorem acr_s (F : Nat → Nat) (n : Nat) : acr F (n + 1) = acr F n + (if F n < 3 then 1 else 0) := rfl
theorem dwn_s (F : Nat → Nat) (n : Nat) : dwn F (n + 1) = dwn F n + (if F n < 3 then 0 else 1) := rfl
theorem acr_dwn (F : Nat → Nat) : ∀ n, acr F n + dwn F n = n
  | 0 => rfl
  | n + 1 => by have := acr_dwn F n; rw [acr_s, dwn_s]; split <;> omega
theorem smN_ext {f f' : Nat → Nat} : ∀ n, (∀ i, i < n → f i = f' i) → smN f n = smN f' n
  | 0, _ => rfl
  | n + 1, h => by rw [smN, smN, smN_ext n (fun i hi => h i (by omega)), h n (by omega)]
theorem acr_ext {F F' : Nat → Nat} (n : Nat) (h : ∀ k, k < n → F k = F' k) : acr F n = acr F' n ∧ dwn F n = dwn F' n :=
  ⟨smN_ext n (fun k hk => by rw [h k hk]), smN_ext n (fun k hk => by rw [h k hk])⟩
theorem pow_lt1 {a : Nat} : 1 < 2 ^ a ↔ 0 < a := by
  constructor
  · intro h; rcases Nat.eq_zero_or_pos a with e | e
    · rw [e] at h; simp at h
    · exact e
  · intro h; exact Nat.one_lt_two_pow (by omega)
theorem pow_half {a : Nat} (h : 0 < a) : 2 ^ a / 2 = 2 ^ (a - 1) := by
  rw [show a = (a - 1) + 1 by omega, Nat.pow_succ, Nat.mul_div_cancel _ (by omega), Nat.add_sub_cancel]
theorem cans_iff {A D : Nat} {F : Nat → Nat} : ∀ n, (p_cans (2 ^ D) (2 ^ A) F n = true ↔ (∀ k, k < n → 1 ≤ F k ∧ F k ≤ 4) ∧ acr F n ≤ A ∧ dwn F n ≤ D) ∧ (p_cans (2 ^ D) (2 ^ A) F n = true → (p_layn (2 ^ D) (2 ^ A) F n).1 = 2 ^ (D - dwn F n) ∧ (p_layn (2 ^ D) (2 ^ A) F n).2.1 = 2 ^ (A - acr F n))
  | 0 => ⟨⟨fun _ => ⟨fun k hk => absurd hk (Nat.not_lt_zero _), Nat.zero_le _, Nat.zero_le _⟩, fun _ => rfl⟩, fun _ => ⟨rfl, rfl⟩⟩
  | n + 1 => by
    obtain ⟨h1, h2⟩ := cans_iff (A := A) (D := D) (F := F) n
    refine ⟨⟨fun h => ?_, fun h => ?_⟩, fun h => ?_⟩
    · simp only [p_cans, Bool.and_eq_true] at h
      obtain ⟨a1, a2, a3⟩ := h1.mp h.1
      obtain ⟨b1, b2⟩ := h2 h.1
      have hc := h.2
      rw [b1, b2] at hc
      simp only [p_can, Bool.and_eq_true, decide_eq_true_eq] at hc
      refine ⟨fun k hk => ?_, ?_⟩
      · by_cases q : k = n
        · rw [q]; exact hc.1
        · exact a1 k (by omega)
      · rw [acr_s, dwn_s]
        split
        · next q => rw [if_pos q, decide_eq_true_eq, pow_lt1] at hc; omega
        · next q => rw [if_neg q, decide_eq_true_eq, pow_lt1] at hc; omega
    · obtain ⟨a1, a2, a3⟩ := h
      rw [acr_s] at a2; rw [dwn_s] at a3
      have hp : p_cans (2 ^ D) (2 ^ A) F n = true := h1.mpr ⟨fun k hk => a1 k (by omega), by omega, by omega⟩
      obtain ⟨b1, b2⟩ := h2 hp
      simp only [p_cans, Bool.and_eq_true]
      refine ⟨hp, ?_⟩
      rw [b1, b2]
      simp only [p_can, Bool.and_eq_true, decide_eq_true_eq]
      refine ⟨a1 n (by omega), ?_⟩
      split
      · next q => rw [if_pos q] at a2; rw [decide_eq_true_eq, pow_lt1]; omega
      · next q => rw [if_neg q] at a3; rw [decide_eq_true_eq, pow_lt1]; omega
    · simp only [p_cans, Bool.and_eq_true] at h
      obtain ⟨b1, b2⟩ := h2 h.1
      have hc := h.2
      rw [b1, b2] at hc
      simp only [p_can, Bool.and_eq_true, decide_eq_true_eq] at hc
      simp only [p_layn]
      rw [b1, b2, acr_s, dwn_s, p_hi, p_wi]
      split
      · next q => rw [if_pos q, decide_eq_true_eq, pow_lt1] at hc; exact ⟨by rw [Nat.add_zero], by rw [pow_half hc.2, Nat.sub_sub]⟩
      · next q => rw [if_neg q, decide_eq_true_eq, pow_lt1] at hc; exact ⟨by rw [pow_half hc.2, Nat.sub_sub], by rw [Nat.add_zero]⟩
theorem isRow_iff {A D n : Nat} : p_isRow (2 ^ D) (2 ^ A) n = true ↔ n ≤ 9999 ∧ (∀ k, k < p_len n → 1 ≤ p_dig n k ∧ p_dig n k ≤ 4) ∧ acr (p_dig n) (p_len n) = A ∧ dwn (p_dig n) (p_len n) = D := by
  have h := (cans_iff (A := A) (D := D) (F := p_dig n) (p_len n)).1
  have hs := acr_dwn (p_dig n) (p_len n)
  have hp : 2 ^ p_len n = 2 ^ D * 2 ^ A ↔ p_len n = D + A := by
    rw [← Nat.pow_add]; exact Nat.pow_right_inj (by omega)
  simp only [p_isRow, Bool.and_eq_true, decide_eq_true_eq]
  rw [h, hp]
  constructor
  · rintro ⟨⟨a1, a2, a3, a4⟩, a5⟩; exact ⟨a1, a2, by omega, by omega⟩
  · rintro ⟨a1, a2, a3, a4⟩; exact ⟨⟨a1, a2, by omega, by omega⟩, by omega⟩
/-- the class's walk through the figures, the last first -/
def irw : Nat → Nat → Nat → Nat → Option (Nat × Nat)
  | 0, _, a, d => some (a, d)
  | q + 1, n, a, d => if n = 0 then some (a, d) else if n % 10 = 0 ∨ 4 < n % 10 then none else if n % 10 < 3 then irw q (n / 10) (a + 1) d else irw q (n / 10) a (d + 1)
def irE (hi wi : Nat) (r : Option (Nat × Nat)) : Bool := match r with
  | none => false
  | some x => decide (x.1 + x.2 ≤ 4) && decide (2 ^ x.1 = wi) && decide (2 ^ x.2 = hi)
theorem irw_cnt {x : Nat × Nat} : ∀ k q n a d, irw q n a d = some x → 10 ^ k ≤ n → k < q → a + d + k + 1 ≤ x.1 + x.2 ∧ (k = 0 → True)
  | 0, q + 1, n, a, d, h, hn, _ => by
    unfold irw at h
    rw [if_neg (by omega)] at h
    have key : ∀ q n a d, irw q n a d = some x → a + d ≤ x.1 + x.2 := by
      intro q
      induction q with
      | zero => intro n a d h; cases h; exact Nat.le_refl _
      | succ q ih =>
        intro n a d h
        unfold irw at h
        split at h
        · cases h; exact Nat.le_refl _
        · split at h
          · cases h
          · split at h
            · have := ih _ _ _ h; omega
            · have := ih _ _ _ h; omega
    split at h
    · cases h
    · split at h
      · have := key _ _ _ _ h; exact ⟨by omega, fun _ => trivial⟩
      · have := key _ _ _ _ h; exact ⟨by omega, fun _ => trivial⟩
  | k + 1, q + 1, n, a, d, h, hn, hq => by
    have h10 : 10 ^ k ≤ n / 10 := by rw [Nat.le_div_iff_mul_le (by omega)]; rw [Nat.pow_succ] at hn; exact hn
    have h0 : n ≠ 0 := fun e => by rw [e] at h10; simp at h10
    unfold irw at h
    rw [if_neg h0] at h
    split at h
    · cases h
    · split at h
      · have := (irw_cnt k q (n / 10) _ _ h h10 (by omega)).1; exact ⟨by omega, fun _ => trivial⟩
      · have := (irw_cnt k q (n / 10) _ _ h h10 (by omega)).1; exact ⟨by omega, fun _ => trivial⟩
def dgF (L n k : Nat) : Nat := n / 10 ^ (L - 1 - k) % 10
theorem dgF_s {L n k : Nat} (hk : k < L) : dgF (L + 1) n k = dgF L (n / 10) k := by
  unfold dgF
  rw [Nat.div_div_eq_div_mul, ← Nat.pow_succ', show L + 1 - 1 - k = (L - 1 - k) + 1 by omega]
theorem irw_F : ∀ L q n a d, n < 10 ^ L → (0 < L → 10 ^ (L - 1) ≤ n) → L < q → ((∀ k, k < L → 1 ≤ dgF L n k ∧ dgF L n k ≤ 4) → irw q n a d = some (a + acr (dgF L n) L, d + dwn (dgF L n) L)) ∧ (¬ (∀ k, k < L → 1 ≤ dgF L n k ∧ dgF L n k ≤ 4) → irw q n a d = none)
  | 0, q + 1, n, a, d, hn, _, _ => by
    have : n = 0 := by simpa using hn
    subst this
    exact ⟨fun _ => rfl, fun h => absurd (fun k hk => absurd hk (Nat.not_lt_zero _)) h⟩
  | L + 1, q + 1, n, a, d, hn, hl, hq => by
    have h1 : n / 10 < 10 ^ L := by rw [Nat.div_lt_iff_lt_mul (by omega), ← Nat.pow_succ]; exact hn
    have h0 : n ≠ 0 := fun e => by have := hl (by omega); rw [e] at this; simp at this
    have h2 : 0 < L → 10 ^ (L - 1) ≤ n / 10 := fun p => by
      rw [Nat.le_div_iff_mul_le (by omega), ← Nat.pow_succ]
      have := hl (by omega)
      rw [show (L - 1).succ = L + 1 - 1 by omega]; exact this
    have hL : dgF (L + 1) n L = n % 10 := by unfold dgF; rw [show L + 1 - 1 - L = 0 by omega]; simp
    obtain ⟨e1, e2⟩ := acr_ext (F := dgF (L + 1) n) (F' := dgF L (n / 10)) L (fun k hk => dgF_s hk)
    have hsp : (∀ k, k < L + 1 → 1 ≤ dgF (L + 1) n k ∧ dgF (L + 1) n k ≤ 4) ↔ ((1 ≤ n % 10 ∧ n % 10 ≤ 4) ∧ ∀ k, k < L → 1 ≤ dgF L (n / 10) k ∧ dgF L (n / 10) k ≤ 4) := by
      constructor
      · intro h; exact ⟨by have := h L (by omega); rw [hL] at this; exact this, fun k hk => by have := h k (by omega); rw [dgF_s hk] at this; exact this⟩
      · rintro ⟨h3, h4⟩ k hk
        by_cases p : k = L
        · rw [p, hL]; exact h3
        · rw [dgF_s (by omega)]; exact h4 k (by omega)
    rw [hsp, acr_s, dwn_s, e1, e2, hL]
    unfold irw
    rw [if_neg h0]
    by_cases p : n % 10 = 0 ∨ 4 < n % 10
    · rw [if_pos p]; exact ⟨fun h => by omega, fun _ => rfl⟩
    · rw [if_neg p]
      by_cases w : n % 10 < 3
      · rw [if_pos w, if_pos w, if_pos w]
        obtain ⟨i1, i2⟩ := irw_F L q (n / 10) (a + 1) d h1 h2 (by omega)
        exact ⟨fun h => by rw [i1 h.2]; congr 2; omega, fun h => i2 (fun z => h ⟨by omega, z⟩)⟩
      · rw [if_neg w, if_neg w, if_neg w]
        obtain ⟨i1, i2⟩ := irw_F L q (n / 10) a (d + 1) h1 h2 (by omega)
        exact ⟨fun h => by rw [i1 h.2]; congr 2; omega, fun h => i2 (fun z => h ⟨by omega, z⟩)⟩
theorem len_pow {n : Nat} (h : n ≤ 9999) : n < 10 ^ p_len n ∧ (0 < p_len n → 10 ^ (p_len n - 1) ≤ n) := by
  unfold p_len; (repeat' split) <;> simp <;> omega
theorem ir_isRow {A D n : Nat} (hA : A ≤ 2) (hD : D ≤ 2) : irE (2 ^ D) (2 ^ A) (irw 11 n 0 0) = p_isRow (2 ^ D) (2 ^ A) n := by
  have h4 := p_len_le n
  have inj : ∀ a b : Nat, 2 ^ a = 2 ^ b ↔ a = b := fun a b => Nat.pow_right_inj (by omega)
  rw [Bool.eq_iff_iff, isRow_iff]
  by_cases hn : n ≤ 9999
  · obtain ⟨l1, l2⟩ := len_pow hn
    obtain ⟨i1, i2⟩ := irw_F (p_len n) 11 n 0 0 l1 l2 (by omega)
    have e : dgF (p_len n) n = p_dig n := rfl
    rw [e] at i1 i2
    by_cases hd : ∀ k, k < p_len n → 1 ≤ p_dig n k ∧ p_dig n k ≤ 4
    · rw [i1 hd]
      have hs := acr_dwn (p_dig n) (p_len n)
      simp only [irE, Nat.zero_add, Bool.and_eq_true, decide_eq_true_eq, inj]
      constructor
      · rintro ⟨⟨-, a2⟩, a3⟩; exact ⟨hn, hd, a2, a3⟩
      · rintro ⟨-, -, a2, a3⟩; exact ⟨⟨by omega, a2⟩, a3⟩
    · rw [i2 hd]
      exact ⟨fun h => (by simp [irE] at h), fun h => absurd h.2.1 hd⟩
  · refine ⟨fun h => ?_, fun h => absurd h.1 hn⟩
    exfalso
    cases hr : irw 11 n 0 0 with
    | none => rw [hr] at h; simp [irE] at h
    | some x =>
      rw [hr] at h
      have := (irw_cnt 4 11 n 0 0 hr (by omega) (by omega)).1
      simp only [irE, Bool.and_eq_true, decide_eq_true_eq] at h
      omega
/-- all rows, as the class finds them -/
def dfs (hi wi : Nat) : Nat → Nat → List Nat
  | 0, _ => []
  | q + 1, b => if irE hi wi (irw 11 b 0 0) then [b] else if b < 1000 then dfs hi wi q (10 * b + 1) ++ dfs hi wi q (10 * b + 2) ++ dfs hi wi q (10 * b + 3) ++ dfs hi wi q (10 * b + 4) else []
def dfsT (hi wi : Nat) : Bool := decide (dfs hi wi 5 0 = (List.range 5000).filter (fun n => irE hi wi (irw 11 n 0 0))) && decide ((dfs hi wi 5 0).length ≤ 96)
theorem dfs11 : dfsT 1 1 = true := by decide +kernel
theorem dfs12 : dfsT 1 2 = true := by decide +kernel
theorem dfs14 : dfsT 1 4 = true := by decide +kernel
theorem dfs21 : dfsT 2 1 = true := by decide +kernel
theorem dfs22 : dfsT 2 2 = true := by decide +kernel
theorem dfs24 : dfsT 2 4 = true := by decide +kernel
theorem dfs41 : dfsT 4 1 = true := by decide +kernel
theorem dfs42 : dfsT 4 2 = true := by decide +kernel
theorem dfs44 : dfsT 4 4 = true := by decide +kernel
theorem ok_pow {hi wi : Nat} (h : p_ok hi wi 1 = true) : ∃ D A, D ≤ 2 ∧ A ≤ 2 ∧ hi = 2 ^ D ∧ wi = 2 ^ A ∧ dfsT hi wi = true := by
  simp only [p_ok, Bool.and_eq_true, Bool.or_eq_true, beq_iff_eq, decide_eq_true_eq] at h
  obtain ⟨⟨⟨h1, h3⟩, -⟩, -⟩ := h
  rcases h1 with (rfl | rfl) | rfl <;> rcases h3 with (rfl | rfl) | rfl
  · exact ⟨0, 0, by omega, by omega, rfl, rfl, dfs11⟩
  · exact ⟨0, 1, by omega, by omega, rfl, rfl, dfs12⟩
  · exact ⟨0, 2, by omega, by omega, rfl, rfl, dfs14⟩
  · exact ⟨1, 0, by omega, by omega, rfl, rfl, dfs21⟩
  · exact ⟨1, 1, by omega, by omega, rfl, rfl, dfs22⟩
  · exact ⟨1, 2, by omega, by omega, rfl, rfl, dfs24⟩
  · exact ⟨2, 0, by omega, by omega, rfl, rfl, dfs41⟩
  · exact ⟨2, 1, by omega, by omega, rfl, rfl, dfs42⟩
  · exact ⟨2, 2, by omega, by omega, rfl, rfl, dfs44⟩
theorem ir_row {hi wi n : Nat} (h : p_ok hi wi 1 = true) : irE hi wi (irw 11 n 0 0) = p_isRow hi wi n := by
  obtain ⟨D, A, h1, h2, rfl, rfl, -⟩ := ok_pow h
  exact ir_isRow h2 h1
theorem dfs_all {hi wi : Nat} (h : p_ok hi wi 1 = true) : dfs hi wi 5 0 = (List.range 5000).filter (p_isRow hi wi) ∧ (dfs hi wi 5 0).length ≤ 96 := by
  obtain ⟨D, A, h1, h2, e1, e2, hT⟩ := ok_pow h
  rw [dfsT, Bool.and_eq_true, decide_eq_true_eq, decide_eq_true_eq] at hT
  refine ⟨?_, hT.2⟩
  rw [hT.1]
  congr 1
  funext n
  exact ir_row h
end ISROW

section PURE3
set_option maxRecDepth 100000
theorem nI_and (a b : Nat) : nI a &&& nI b = nI (a &&& b) := by
  apply Int32.toBitVec_inj.1
  show BitVec.ofNat 32 a &&& BitVec.ofNat 32 b = BitVec.ofNat 32 (a &&& b)
  apply BitVec.eq_of_getLsbD_eq
  intro i hi
  simp [hi]
theorem nI_or (a b : Nat) : nI a ||| nI b = nI (a ||| b) := by
  apply Int32.toBitVec_inj.1
  show BitVec.ofNat 32 a ||| BitVec.ofNat 32 b = BitVec.ofNat 32 (a ||| b)
  apply BitVec.eq_of_getLsbD_eq
  intro i hi
  simp [hi]
theorem nI_xor (a b : Nat) : nI a ^^^ nI b = nI (a ^^^ b) := by
  apply Int32.toBitVec_inj.1
  show BitVec.ofNat 32 a ^^^ BitVec.ofNat 32 b = BitVec.ofNat 32 (a ^^^ b)
  apply BitVec.eq_of_getLsbD_eq
  intro i hi
  simp [hi]
theorem nI_sh : ∀ n, n < 32 → ((nI n &&& 31).toBitVec.smod 32).toNat = n := by
  have h : ((List.range 32).all fun n => decide (((nI n &&& 31).toBitVec.smod 32).toNat = n)) = true := by decide +kernel
  intro n hn
  have := List.all_eq_true.mp h n (List.mem_range.mpr hn)
  simpa using this
theorem nI_shl {a k : Nat} (hk : k < 32) (h : a * 2 ^ k < 2 ^ 32) : nI a <<< (nI k &&& 31) = nI (a * 2 ^ k) := pk_shlN _ k (nI_sh k hk) h
theorem nI_shr {a k : Nat} (ha : a < 2 ^ 31) (hk : k < 32) : nI a >>> (nI k &&& 31) = nI (a / 2 ^ k) := pk_shrN ha _ k (nI_sh k hk)
theorem nI_one (k : Nat) (hk : k < 31) : (1 : Int32) <<< (nI k &&& 31) = nI (2 ^ k) := by
  have := nI_shl (a := 1) (k := k) (by omega) (by rw [Nat.one_mul]; exact Nat.pow_lt_pow_right (by omega) (by omega))
  rw [Nat.one_mul] at this
  exact this
theorem nI_bit {a k : Nat} (ha : a < 2 ^ 31) (hk : k < 32) : ((nI a >>> (nI k &&& 31)) &&& 1 = 1) ↔ a.testBit k = true := by
  rw [nI_shr ha hk, show (1 : Int32) = nI 1 from rfl, nI_and]
  rw [nI_eq (by have : a / 2 ^ k &&& 1 ≤ 1 := Nat.and_le_right; omega) (by omega)]
  rw [Nat.and_one_is_mod, Nat.testBit_eq_decide_div_mod_eq]
  simp
/-- numbers put together by or; sums -/
def orN (f : Nat → Nat) : Nat → Nat
  | 0 => 0
  | n + 1 => orN f n ||| f n
def smN (f : Nat → Nat) : Nat → Nat
  | 0 => 0
  | n + 1 => smN f n + f n
theorem orN_lt {f : Nat → Nat} {k : Nat} (h : ∀ i, f i < 2 ^ k) : ∀ n, orN f n < 2 ^ k
  | 0 => Nat.two_pow_pos k
  | n + 1 => Nat.or_lt_two_pow (orN_lt h n) (h n)
theorem orN_bit {f : Nat → Nat} {b : Nat} : ∀ n, (orN f n).testBit b = true ↔ ∃ i, i < n ∧ (f i).testBit b = true
  | 0 => by simp [orN]
  | n + 1 => by
    rw [orN, Nat.testBit_or, Bool.or_eq_true, orN_bit n]
    constructor
    · rintro (⟨i, h1, h2⟩ | h)
      · exact ⟨i, by omega, h2⟩
      · exact ⟨n, by omega, h⟩
    · rintro ⟨i, h1, h2⟩
      rcases Nat.lt_or_ge i n with q | q
      · exact Or.inl ⟨i, q, h2⟩
      · rw [show i = n by omega] at h2; exact Or.inr h2
theorem orN_ext {f f' : Nat → Nat} : ∀ n, (∀ i, i < n → f i = f' i) → orN f n = orN f' n
  | 0, _ => rfl
  | n + 1, h => by rw [orN, orN, orN_ext n (fun i hi => h i (by omega)), h n (by omega)]
theorem smN_le {f : Nat → Nat} {k : Nat} (h : ∀ i, f i ≤ k) : ∀ n, smN f n ≤ k * n
  | 0 => Nat.le_refl _
  | n + 1 => by rw [smN, Nat.mul_succ]; exact Nat.add_le_add (smN_le h n) (h n)
/-- the edge along which two leaves hang together -/
def p_fst (ly : Nat → Lay) (i j : Nat) : Nat := if (ly i).1 < (ly j).1 then i else j
def p_edge (wi : Nat) (ly : Nat → Lay) (i j : Nat) : Option Nat :=
  if (ly (i + j - p_fst ly i j)).1 = (ly (p_fst ly i j)).1 + 1 ∧ 0 < (ly (i + j - p_fst ly i j)).1 % wi then some (if (ly (p_fst ly i j)).2.1 then 0 else 1)
  else if (ly (i + j - p_fst ly i j)).1 = (ly (p_fst ly i j)).1 + wi then some (if (ly (p_fst ly i j)).2.2 then 2 else 3) else none
theorem p_edge_lt {wi : Nat} {ly : Nat → Lay} {i j k : Nat} (h : p_edge wi ly i j = some k) : k < 4 := by
  unfold p_edge at h
  split at h
  · cases h; split <;> omega
  · split at h
    · cases h; split <;> omega
    · cases h
def eI : Option Nat → Int32
  | none => -1
  | some k => nI k
theorem eI_inj {a : Option Nat} {k : Nat} (ha : ∀ z, a = some z → z < 100) (hk : k < 100) : eI a = nI k ↔ a = some k := by
  cases a with
  | none => simp only [eI, reduceCtorEq, iff_false]; intro h; exact absurd (nI_pos' (n := k) (by omega)) (by rw [← h]; decide)
  | some z => simp only [eI, Option.some.injEq]; exact nI_eq (by have := ha z rfl; omega) (by omega)
/-- what an edge gives to the set of those that shut -/
def p_bit (c se : Nat) (e : Option Nat) : Nat := match e with
  | none => 0
  | some k => if c.testBit k = false ∧ k ≠ se then 2 ^ k else 0
theorem p_bit_lt {c se : Nat} {wi : Nat} {ly : Nat → Lay} {i j : Nat} : p_bit c se (p_edge wi ly i j) < 2 ^ 4 := by
  unfold p_bit
  split
  · omega
  · rename_i k hk
    split
    · exact Nat.pow_lt_pow_right (by omega) (p_edge_lt hk)
    · omega
def p_shut (c se wi : Nat) (ly : Nat → Lay) (n o : Nat) : Nat := orN (fun i => orN (fun j => p_bit c se (p_edge wi ly i (o + j))) (n - o)) o
theorem p_shut_lt {c se wi : Nat} {ly : Nat → Lay} {n o : Nat} : p_shut c se wi ly n o < 16 := orN_lt (k := 4) (fun i => orN_lt (k := 4) (fun j => p_bit_lt) _) _
/-- a page: its side, whether it is turned -/
def p_sd (ly : Nat → Lay) (pg : Nat) : Nat := 2 * (ly (pg / 2)).1 + (p_side (ly (pg / 2)) != decide (pg % 2 = 1)).toNat
def p_tn (ly : Nat → Lay) (sp pg : Nat) : Bool := (ly (pg / 2)).2.2 != (decide (sp = 1) && decide (pg % 2 = 1))
def p_se (sp : Nat) : Nat := if sp = 0 then 0 else 2
def p_prs (wi : Nat) (ly : Nat → Lay) (n e : Nat) : Nat := smN (fun i => smN (fun j => if p_edge wi ly i (i + 1 + j) = some e then 1 else 0) (n - (i + 1))) n
end PURE3

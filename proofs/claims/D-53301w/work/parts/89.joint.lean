/-! the joints of a booklet: the class's list against the reference's pairs -/
section JOINT
set_option maxRecDepth 100000
/-- a joint: the upper leaf, the lower one, the edge -/
abbrev Jt : Type := Nat × Nat × Nat
def lfA (ly : Nat → Lay) : Nat → Nat → Nat
  | 0, _ => 0
  | n + 1, c => if c = (ly n).1 then n else lfA ly n c
def jMk (a b e : Nat) : Jt := (min a b, max a b, e)
def jAt1 (wi : Nat) (ly : Nat → Lay) (lf : Nat → Nat) (c : Nat) : List Jt := if (ly (lf c)).1 % wi + 1 < wi then [jMk (lf c) (lf (c + 1)) (if (ly (lf c)).2.1 then 0 else 1)] else []
def jAt2 (hi wi : Nat) (ly : Nat → Lay) (lf : Nat → Nat) (c : Nat) : List Jt := if (ly (lf c)).1 / wi + 1 < hi then [jMk (lf c) (lf (c + wi)) (if (ly (lf c)).2.2 then 2 else 3)] else []
def jL (hi wi : Nat) (ly : Nat → Lay) (lf : Nat → Nat) : Nat → List Jt
  | 0 => []
  | c + 1 => jL hi wi ly lf c ++ jAt1 wi ly lf c ++ jAt2 hi wi ly lf c
/-- the pairs of leaves that hang together, in the reference's order -/
def jOp (i j : Nat) (e : Option Nat) : List Jt := match e with
  | none => []
  | some e => [(i, j, e)]
def jPi (wi : Nat) (ly : Nat → Lay) (i : Nat) : Nat → List Jt
  | 0 => []
  | k + 1 => jPi wi ly i k ++ jOp i (i + 1 + k) (p_edge wi ly i (i + 1 + k))
def jP (wi : Nat) (ly : Nat → Lay) (n : Nat) : Nat → List Jt
  | 0 => []
  | i + 1 => jP wi ly n i ++ jPi wi ly i (n - (i + 1))
def lyF (L : List Lay) (t : Nat) : Lay := L.getD t (0, false, false)
def lyOk (hi wi n : Nat) (L : List Lay) : Bool :=
  (jP wi (lyF L) n n).isPerm (jL hi wi (lyF L) (lfA (lyF L) n) n) && (List.range n).all (fun t => decide ((lyF L t).1 < n ∧ lfA (lyF L) n (lyF L t).1 = t ∧ lfA (lyF L) n t < n ∧ (lyF L (lfA (lyF L) n t)).1 = t))
def fo4 (a b c d : Nat) : Nat → Nat
  | 0 => a
  | 1 => b
  | 2 => c
  | _ => d
def lyT4 (hi wi n a b c d : Nat) : Bool := !p_cans hi wi (fo4 a b c d) n || lyOk hi wi (2 ^ n) ((List.range (2 ^ n)).map (p_layn hi wi (fo4 a b c d) n).2.2.2)
theorem ly_tab0 : lyT4 1 1 0 0 0 0 0 = true := by decide +kernel
theorem ly_tab1 : ((List.range 5).all fun a => lyT4 1 2 1 a 0 0 0 && lyT4 2 1 1 a 0 0 0) = true := by decide +kernel
theorem ly_tab2 : ((List.range 5).all fun a => (List.range 5).all fun b => lyT4 1 4 2 a b 0 0 && lyT4 2 2 2 a b 0 0 && lyT4 4 1 2 a b 0 0) = true := by decide +kernel
theorem ly_tab3 : ((List.range 5).all fun a => (List.range 5).all fun b => (List.range 5).all fun c => lyT4 2 4 3 a b c 0 && lyT4 4 2 3 a b c 0) = true := by decide +kernel
theorem ly_tab4 : ((List.range 5).all fun a => (List.range 5).all fun b => (List.range 5).all fun c => (List.range 5).all fun d => lyT4 4 4 4 a b c d) = true := by decide +kernel
theorem lyT4_use {hi wi n a b c d : Nat} {F : Nat → Nat} (hF : ∀ k, k < n → F k = fo4 a b c d k) (hT : lyT4 hi wi n a b c d = true) (hc : p_cans hi wi F n = true) : lyOk hi wi (2 ^ n) ((List.range (2 ^ n)).map (p_layn hi wi F n).2.2.2) = true := by
  rw [p_cans_ext n hF] at hc
  rw [p_layn_ext n hF]
  exact imp_t hT hc
theorem ly_ok {hi wi n : Nat} {F : Nat → Nat} (hok : p_ok hi wi 1 = true) (hc : p_cans hi wi F n = true) (h2 : 2 ^ n = hi * wi) : lyOk hi wi (2 ^ n) ((List.range (2 ^ n)).map (p_layn hi wi F n).2.2.2) = true := by
  have hn := p_cans_le hok hc
  have hF : ∀ k, k < n → F k < 5 := fun k hk => (p_can_b (p_cans_at hk hc)).1
  simp only [p_ok, Bool.and_eq_true, Bool.or_eq_true, beq_iff_eq, decide_eq_true_eq] at hok
  obtain ⟨⟨⟨h1, h3⟩, -⟩, -⟩ := hok
  rcases (by omega : n = 0 ∨ n = 1 ∨ n = 2 ∨ n = 3 ∨ n = 4) with rfl | rfl | rfl | rfl | rfl
  · have e : hi = 1 ∧ wi = 1 := by rcases h1 with (rfl | rfl) | rfl <;> rcases h3 with (rfl | rfl) | rfl <;> simp at h2 <;> simp
    obtain ⟨rfl, rfl⟩ := e
    exact lyT4_use (fun k hk => by omega) ly_tab0 hc
  · have hT := rg ly_tab1 (hF 0 (by omega))
    rw [Bool.and_eq_true] at hT
    have e : (hi = 1 ∧ wi = 2) ∨ (hi = 2 ∧ wi = 1) := by rcases h1 with (rfl | rfl) | rfl <;> rcases h3 with (rfl | rfl) | rfl <;> simp at h2 <;> simp
    rcases e with ⟨rfl, rfl⟩ | ⟨rfl, rfl⟩
    · exact lyT4_use (fun k hk => by rw [show k = 0 by omega]; rfl) hT.1 hc
    · exact lyT4_use (fun k hk => by rw [show k = 0 by omega]; rfl) hT.2 hc
  · have hT := rg (rg ly_tab2 (hF 0 (by omega))) (hF 1 (by omega))
    rw [Bool.and_eq_true, Bool.and_eq_true] at hT
    have hk : ∀ k, k < 2 → F k = fo4 (F 0) (F 1) 0 0 k := fun k hk => by rcases (by omega : k = 0 ∨ k = 1) with rfl | rfl <;> rfl
    have e : (hi = 1 ∧ wi = 4) ∨ (hi = 2 ∧ wi = 2) ∨ (hi = 4 ∧ wi = 1) := by rcases h1 with (rfl | rfl) | rfl <;> rcases h3 with (rfl | rfl) | rfl <;> simp at h2 <;> simp
    rcases e with ⟨rfl, rfl⟩ | ⟨rfl, rfl⟩ | ⟨rfl, rfl⟩
    · exact lyT4_use hk hT.1.1 hc
    · exact lyT4_use hk hT.1.2 hc
    · exact lyT4_use hk hT.2 hc
  · have hT := rg (rg (rg ly_tab3 (hF 0 (by omega))) (hF 1 (by omega))) (hF 2 (by omega))
    rw [Bool.and_eq_true] at hT
    have hk : ∀ k, k < 3 → F k = fo4 (F 0) (F 1) (F 2) 0 k := fun k hk => by rcases (by omega : k = 0 ∨ k = 1 ∨ k = 2) with rfl | rfl | rfl <;> rfl
    have e : (hi = 2 ∧ wi = 4) ∨ (hi = 4 ∧ wi = 2) := by rcases h1 with (rfl | rfl) | rfl <;> rcases h3 with (rfl | rfl) | rfl <;> simp at h2 <;> simp
    rcases e with ⟨rfl, rfl⟩ | ⟨rfl, rfl⟩
    · exact lyT4_use hk hT.1 hc
    · exact lyT4_use hk hT.2 hc
  · have hT := rg (rg (rg (rg ly_tab4 (hF 0 (by omega))) (hF 1 (by omega))) (hF 2 (by omega))) (hF 3 (by omega))
    have hk : ∀ k, k < 4 → F k = fo4 (F 0) (F 1) (F 2) (F 3) k := fun k hk => by rcases (by omega : k = 0 ∨ k = 1 ∨ k = 2 ∨ k = 3) with rfl | rfl | rfl | rfl <;> rfl
    have e : hi = 4 ∧ wi = 4 := by rcases h1 with (rfl | rfl) | rfl <;> rcases h3 with (rfl | rfl) | rfl <;> simp at h2 <;> simp
    obtain ⟨rfl, rfl⟩ := e
    exact lyT4_use hk hT hc
theorem lfA_ext {ly ly' : Nat → Lay} : ∀ n, (∀ t, t < n → ly t = ly' t) → ∀ c, lfA ly n c = lfA ly' n c
  | 0, _, _ => rfl
  | n + 1, h, c => by rw [lfA, lfA, h n (by omega), lfA_ext n (fun t ht => h t (by omega))]
theorem p_fst_or (ly : Nat → Lay) (i j : Nat) : (p_fst ly i j = i ∧ i + j - p_fst ly i j = j) ∨ (p_fst ly i j = j ∧ i + j - p_fst ly i j = i) := by
  unfold p_fst; split <;> omega
theorem p_edge_ext {wi n i j : Nat} {ly ly' : Nat → Lay} (h : ∀ t, t < n → ly t = ly' t) (hi : i < n) (hj : j < n) : p_edge wi ly i j = p_edge wi ly' i j := by
  have e : p_fst ly i j = p_fst ly' i j := by unfold p_fst; rw [h i hi, h j hj]
  unfold p_edge
  rw [← e]
  rcases p_fst_or ly i j with ⟨e1, e2⟩ | ⟨e1, e2⟩ <;> rw [e2, e1, h i hi, h j hj]
theorem jPi_ext {wi n i : Nat} {ly ly' : Nat → Lay} (h : ∀ t, t < n → ly t = ly' t) (hi : i < n) : ∀ k, i + 1 + k ≤ n → jPi wi ly i k = jPi wi ly' i k
  | 0, _ => rfl
  | k + 1, hk => by rw [jPi, jPi, jPi_ext h hi k (by omega), p_edge_ext h hi (by omega)]
theorem jP_ext {wi n : Nat} {ly ly' : Nat → Lay} (h : ∀ t, t < n → ly t = ly' t) : ∀ i, i ≤ n → jP wi ly n i = jP wi ly' n i
  | 0, _ => rfl
  | i + 1, hi => by rw [jP, jP, jP_ext h i (by omega), jPi_ext h (by omega) _ (by omega)]
theorem jL_ext {hi wi n : Nat} {ly ly' : Nat → Lay} {lf lf' : Nat → Nat} (h : ∀ t, t < n → ly t = ly' t) (hl : ∀ c, c < n → lf c < n) (hf : ∀ c, lf c = lf' c) : ∀ c, c ≤ n → jL hi wi ly lf c = jL hi wi ly' lf' c
  | 0, _ => rfl
  | c + 1, hc => by
    rw [jL, jL, jL_ext h hl hf c (by omega), jAt1, jAt1, jAt2, jAt2]
    simp only [← hf, h _ (hl c (by omega))]
/-- what a booklet's layers are -/
theorem ly_all {hi wi n : Nat} {F : Nat → Nat} (hok : p_ok hi wi 1 = true) (hc : p_cans hi wi F n = true) (h2 : 2 ^ n = hi * wi) : (jP wi (p_layn hi wi F n).2.2.2 (hi * wi) (hi * wi)).Perm (jL hi wi (p_layn hi wi F n).2.2.2 (lfA (p_layn hi wi F n).2.2.2 (hi * wi)) (hi * wi)) ∧ ∀ t, t < hi * wi → ((p_layn hi wi F n).2.2.2 t).1 < hi * wi ∧ lfA (p_layn hi wi F n).2.2.2 (hi * wi) ((p_layn hi wi F n).2.2.2 t).1 = t ∧ lfA (p_layn hi wi F n).2.2.2 (hi * wi) t < hi * wi ∧ ((p_layn hi wi F n).2.2.2 (lfA (p_layn hi wi F n).2.2.2 (hi * wi) t)).1 = t := by
  have h := ly_ok hok hc h2
  rw [h2] at h
  generalize (p_layn hi wi F n).2.2.2 = ly at h ⊢
  generalize hi * wi = N at h ⊢
  have e : ∀ t, t < N → lyF ((List.range N).map ly) t = ly t := fun t ht => by
    simp [lyF, List.getD_eq_getElem?_getD, ht]
  rw [lyOk, Bool.and_eq_true, List.isPerm_iff] at h
  obtain ⟨h1, h3⟩ := h
  have h4 : ∀ t, t < N → (ly t).1 < N ∧ lfA ly N (ly t).1 = t ∧ lfA ly N t < N ∧ (ly (lfA ly N t)).1 = t := fun t ht => by
    have q := of_decide_eq_true (rg h3 ht)
    rw [lfA_ext N e, lfA_ext N e] at q
    rw [e _ q.2.2.1, e _ ht] at q
    exact q
  refine ⟨?_, h4⟩
  rw [jP_ext e N (Nat.le_refl _)] at h1
  rw [jL_ext (lf' := lfA ly N) e (fun c hc => by rw [lfA_ext N e]; exact (h4 c hc).2.2.1) (fun c => lfA_ext N e c) N (Nat.le_refl _)] at h1
  exact h1
theorem jOp_mem {i j : Nat} {e : Option Nat} {x : Jt} : x ∈ jOp i j e ↔ x.1 = i ∧ x.2.1 = j ∧ e = some x.2.2 := by
  obtain ⟨a, b, c⟩ := x
  cases e with
  | none => simp [jOp]
  | some q => simp [jOp]; grind
theorem jPi_mem {wi i : Nat} {ly : Nat → Lay} {x : Jt} : ∀ k, x ∈ jPi wi ly i k ↔ x.1 = i ∧ i < x.2.1 ∧ x.2.1 < i + 1 + k ∧ p_edge wi ly i x.2.1 = some x.2.2
  | 0 => by simp only [jPi, List.not_mem_nil, false_iff]; omega
  | k + 1 => by
    rw [jPi, List.mem_append, jPi_mem k, jOp_mem]
    constructor
    · rintro (⟨h1, h2, h3, h4⟩ | ⟨h1, h2, h3⟩)
      · exact ⟨h1, h2, by omega, h4⟩
      · exact ⟨h1, by omega, by omega, by rw [h2]; exact h3⟩
    · rintro ⟨h1, h2, h3, h4⟩
      by_cases q : x.2.1 = i + 1 + k
      · exact Or.inr ⟨h1, q, by rw [← q]; exact h4⟩
      · exact Or.inl ⟨h1, h2, by omega, h4⟩
theorem jP_mem {wi n : Nat} {ly : Nat → Lay} {x : Jt} : ∀ m, m ≤ n → (x ∈ jP wi ly n m ↔ x.1 < m ∧ x.1 < x.2.1 ∧ x.2.1 < n ∧ p_edge wi ly x.1 x.2.1 = some x.2.2)
  | 0, _ => by simp [jP]
  | m + 1, hm => by
    rw [jP, List.mem_append, jP_mem m (by omega), jPi_mem]
    constructor
    · rintro (⟨h1, h2, h3, h4⟩ | ⟨h1, h2, h3, h4⟩)
      · exact ⟨by omega, h2, h3, h4⟩
      · exact ⟨by omega, by omega, by omega, by rw [h1]; exact h4⟩
    · rintro ⟨h1, h2, h3, h4⟩
      by_cases q : x.1 = m
      · exact Or.inr ⟨q, by omega, by omega, by rw [← q]; exact h4⟩
      · exact Or.inl ⟨by omega, h2, h3, h4⟩
theorem jPi_cnt {wi i e : Nat} {ly : Nat → Lay} : ∀ k, (jPi wi ly i k).countP (fun x => x.2.2 == e) = smN (fun j => if p_edge wi ly i (i + 1 + j) = some e then 1 else 0) k
  | 0 => rfl
  | k + 1 => by
    rw [jPi, List.countP_append, jPi_cnt k, smN]
    congr 1
    cases h : p_edge wi ly i (i + 1 + k) with
    | none => simp [jOp]
    | some q => simp [jOp, List.countP_cons]
theorem jP_cnt {wi n e : Nat} {ly : Nat → Lay} : ∀ m, (jP wi ly n m).countP (fun x => x.2.2 == e) = smN (fun i => smN (fun j => if p_edge wi ly i (i + 1 + j) = some e then 1 else 0) (n - (i + 1))) m
  | 0 => rfl
  | m + 1 => by rw [jP, List.countP_append, jP_cnt m, smN, jPi_cnt]
/-- or over a list -/
def orL (f : Jt → Nat) : List Jt → Nat
  | [] => 0
  | x :: r => f x ||| orL f r
theorem orL_app (f : Jt → Nat) : ∀ a b, orL f (a ++ b) = orL f a ||| orL f b
  | [], b => by simp [orL]
  | x :: r, b => by rw [List.cons_append, orL, orL, orL_app f r b, Nat.or_assoc]
theorem orL_bit {f : Jt → Nat} {b : Nat} : ∀ J, (orL f J).testBit b = true ↔ ∃ x ∈ J, (f x).testBit b = true
  | [] => by simp [orL]
  | x :: r => by rw [orL, Nat.testBit_or, Bool.or_eq_true, orL_bit r]; simp
theorem orL_lt {f : Jt → Nat} {k : Nat} : ∀ J, (∀ x ∈ J, f x < 2 ^ k) → orL f J < 2 ^ k
  | [], _ => Nat.two_pow_pos k
  | x :: r, h => Nat.or_lt_two_pow (h x (by simp)) (orL_lt r (fun y hy => h y (by simp [hy])))
def jHas (c : Nat) (x : Jt) : Bool := !c.testBit x.2.2
/-- what a joint gives to an opening's shutters -/
def jShut (c se k : Nat) (x : Jt) : Nat := if jHas c x && decide (x.2.2 ≠ se) && decide (x.1 < k ∧ k ≤ x.2.1) then 2 ^ x.2.2 else 0
theorem pow_bit {a b : Nat} : (2 ^ a).testBit b = true ↔ a = b := by rw [Nat.testBit_two_pow]; simp
theorem p_bit_bit {c se b : Nat} {e : Option Nat} : (p_bit c se e).testBit b = true ↔ e = some b ∧ c.testBit b = false ∧ b ≠ se := by
  cases e with
  | none => simp [p_bit]
  | some k =>
    simp only [p_bit]
    split
    · rw [pow_bit]; grind
    · simp; grind
theorem shut_eq {wi n c se k : Nat} {ly : Nat → Lay} {J : List Jt} (hp : (jP wi ly n n).Perm J) (hk : k ≤ n) : orL (jShut c se k) J = p_shut c se wi ly n k := by
  apply Nat.eq_of_testBit_eq
  intro b
  rw [Bool.eq_iff_iff, orL_bit, p_shut, orN_bit]
  constructor
  · rintro ⟨x, hx, hb⟩
    have hx := (jP_mem n (Nat.le_refl _)).mp (hp.mem_iff.mpr hx)
    unfold jShut at hb
    split at hb
    · rename_i q
      rw [pow_bit] at hb
      simp only [jHas, Bool.and_eq_true, Bool.not_eq_true', decide_eq_true_eq] at q
      refine ⟨x.1, by omega, ?_⟩
      rw [orN_bit]
      refine ⟨x.2.1 - k, by omega, ?_⟩
      rw [show k + (x.2.1 - k) = x.2.1 by omega, p_bit_bit, ← hb]
      exact ⟨hx.2.2.2, q.1.1, q.1.2⟩
    · simp at hb
  · rintro ⟨i, h1, h2⟩
    rw [orN_bit] at h2
    obtain ⟨j, h3, h4⟩ := h2
    rw [p_bit_bit] at h4
    refine ⟨(i, k + j, b), hp.mem_iff.mp ((jP_mem n (Nat.le_refl _)).mpr ⟨by show i < n; omega, by show i < k + j; omega, by show k + j < n; omega, h4.1⟩), ?_⟩
    unfold jShut
    rw [if_pos]
    · exact pow_bit.mpr rfl
    · simp only [jHas, Bool.and_eq_true, Bool.not_eq_true', decide_eq_true_eq]
      exact ⟨⟨h4.2.1, h4.2.2⟩, h1, by omega⟩
end JOINT

/-! binary heaps -/
section HEAP
/-- the elements e' are those of e, in another order -/
def hSm (e e' : Nat → Nat) (n : Nat) : Prop := (∀ i, i < n → ∃ j, j < n ∧ e' i = e j) ∧ (∀ j, j < n → ∃ i, i < n ∧ e' i = e j) ∧ ((∀ i j, i < n → j < n → e i = e j → i = j) → ∀ i j, i < n → j < n → e' i = e' j → i = j)
theorem hSm.rf {e : Nat → Nat} {n : Nat} : hSm e e n := ⟨fun i hi => ⟨i, hi, rfl⟩, fun i hi => ⟨i, hi, rfl⟩, id⟩
theorem hSm.tr {e e1 e2 : Nat → Nat} {n : Nat} (a : hSm e e1 n) (b : hSm e1 e2 n) : hSm e e2 n := by
  refine ⟨fun i hi => ?_, fun j hj => ?_, fun hq => b.2.2 (a.2.2 hq)⟩
  · obtain ⟨j, hj, e1⟩ := b.1 i hi
    obtain ⟨k, hk, e2⟩ := a.1 j hj
    exact ⟨k, hk, e1.trans e2⟩
  · obtain ⟨i, hi, e1⟩ := a.2.1 j hj
    obtain ⟨k, hk, e2⟩ := b.2.1 i hi
    exact ⟨k, hk, e2.trans e1⟩
def hSw (e : Nat → Nat) (k p : Nat) : Nat → Nat := fun i => if i = k then e p else if i = p then e k else e i
theorem hSw_sm {e : Nat → Nat} {k p n : Nat} (hk : k < n) (hp : p < n) : hSm e (hSw e k p) n := by
  refine ⟨fun i hi => ?_, fun j hj => ?_, fun hq i j hi hj he => ?_⟩
  · unfold hSw; split
    · exact ⟨p, hp, rfl⟩
    · split
      · exact ⟨k, hk, rfl⟩
      · exact ⟨i, hi, rfl⟩
  · by_cases h1 : j = p
    · exact ⟨k, hk, by simp [hSw, h1]⟩
    · by_cases h2 : j = k
      · refine ⟨p, hp, ?_⟩
        unfold hSw; subst h2; simp
        intro e; subst e; rfl
      · exact ⟨j, hj, by simp [hSw, h1, h2]⟩
  · have := hq i j hi hj
    have := hq k p hk hp
    have := hq k i hk hi
    have := hq k j hk hj
    have := hq p i hp hi
    have := hq p j hp hj
    unfold hSw at he
    grind
/-- the order of a heap -/
def hOrd (w : Nat → Int) (n : Nat) : Prop := ∀ i, 0 < i → i < n → w ((i - 1) / 2) ≤ w i
/-- all but the way from k to its parent -/
def hUp (w : Nat → Int) (n k : Nat) : Prop := (∀ i, 0 < i → i < n → i ≠ k → w ((i - 1) / 2) ≤ w i) ∧ (0 < k → ∀ i, 0 < i → i < n → (i - 1) / 2 = k → w ((k - 1) / 2) ≤ w i)
theorem hUp.done {w : Nat → Int} {n k : Nat} (h : hUp w n k) (hk : k = 0 ∨ w ((k - 1) / 2) ≤ w k) : hOrd w n := by
  intro i h0 hi
  by_cases e : i = k
  · subst e; rcases hk with hk | hk
    · omega
    · exact hk
  · exact h.1 i h0 hi e
theorem hUp.step {r : Nat → Int} {e : Nat → Nat} {n k : Nat} (hk : 0 < k) (hkn : k < n) (h : hUp (fun i => r (e i)) n k) (hlt : r (e k) < r (e ((k - 1) / 2))) : hUp (fun i => r (hSw e k ((k - 1) / 2) i)) n ((k - 1) / 2) := by
  have hpk : (k - 1) / 2 ≠ k := by omega
  generalize hp : (k - 1) / 2 = p at *
  have hpn : p < n := by omega
  have sk : hSw e k p k = e p := by simp [hSw]
  have sp : hSw e k p p = e k := by simp [hSw, hpk]
  have so : ∀ i, i ≠ k → i ≠ p → hSw e k p i = e i := fun i h1 h2 => by simp [hSw, h1, h2]
  refine ⟨fun i h0 hi hne => ?_, fun hp0 i h0 hi hpar => ?_⟩
  · show r (hSw e k p ((i - 1) / 2)) ≤ r (hSw e k p i)
    by_cases e1 : i = k
    · subst e1; rw [hp, sp, sk]; omega
    · rw [so i e1 hne]
      by_cases e2 : (i - 1) / 2 = k
      · rw [e2, sk]; have := h.2 hk i h0 hi e2; rw [hp] at this; exact this
      · by_cases e3 : (i - 1) / 2 = p
        · rw [e3, sp]; have := h.1 i h0 hi e1; simp only [e3] at this; omega
        · rw [so _ e2 e3]; exact h.1 i h0 hi e1
  · show r (hSw e k p ((p - 1) / 2)) ≤ r (hSw e k p i)
    have hpp := h.1 p hp0 hpn hpk
    simp only at hpp
    rw [so _ (by omega) (by omega)]
    by_cases e1 : i = k
    · subst e1; rw [sk]; exact hpp
    · rw [so i e1 (by omega)]
      have := h.1 i h0 hi e1; simp only [hpar] at this; omega
/-- all but the ways from k to its children -/
def hDn (w : Nat → Int) (n k : Nat) : Prop := (∀ i, 0 < i → i < n → (i - 1) / 2 ≠ k → w ((i - 1) / 2) ≤ w i) ∧ (0 < k → ∀ i, 0 < i → i < n → (i - 1) / 2 = k → w ((k - 1) / 2) ≤ w i)
theorem hDn.done {w : Nat → Int} {n k : Nat} (h : hDn w n k) (hk : ∀ i, 0 < i → i < n → (i - 1) / 2 = k → w k ≤ w i) : hOrd w n := by
  intro i h0 hi
  by_cases e : (i - 1) / 2 = k
  · rw [e]; exact hk i h0 hi e
  · exact h.1 i h0 hi e
theorem hDn.step {r : Nat → Int} {e : Nat → Nat} {n k c : Nat} (hc : 0 < c) (hcn : c < n) (hp : (c - 1) / 2 = k) (h : hDn (fun i => r (e i)) n k) (hlt : r (e c) < r (e k)) (hmin : ∀ i, 0 < i → i < n → (i - 1) / 2 = k → r (e c) ≤ r (e i)) : hDn (fun i => r (hSw e k c i)) n c := by
  have hck : c ≠ k := by omega
  have sk : hSw e k c k = e c := by simp [hSw]
  have sc : hSw e k c c = e k := by simp [hSw, hck]
  have so : ∀ i, i ≠ k → i ≠ c → hSw e k c i = e i := fun i h1 h2 => by simp [hSw, h1, h2]
  refine ⟨fun i h0 hi hne => ?_, fun hc0 i h0 hi hpar => ?_⟩
  · show r (hSw e k c ((i - 1) / 2)) ≤ r (hSw e k c i)
    by_cases e1 : i = c
    · subst e1; rw [hp, sc, sk]; omega
    · by_cases e2 : (i - 1) / 2 = k
      · have e3 : i ≠ k := by omega
        rw [e2, sk, so i e3 e1]; exact hmin i h0 hi e2
      · rw [so _ e2 hne]
        by_cases e3 : i = k
        · subst e3; rw [sk]; exact h.2 h0 c hc hcn hp
        · rw [so i e3 e1]; exact h.1 i h0 hi e2
  · show r (hSw e k c ((c - 1) / 2)) ≤ r (hSw e k c i)
    have e1 : i ≠ c := by omega
    have e2 : i ≠ k := by omega
    rw [hp, sk, so i e2 e1]
    have := h.1 i h0 hi (by omega); simp only [hpar] at this; exact this
theorem hOrd.root {w : Nat → Int} {n : Nat} (h : hOrd w n) : ∀ k i, i ≤ k → i < n → w 0 ≤ w i
  | 0, i, hk, _ => by have : i = 0 := by omega
                      subst this; omega
  | k + 1, i, hk, hi => by
    by_cases e : i = 0
    · subst e; omega
    · have h1 := h i (by omega) hi
      have h2 := hOrd.root h k ((i - 1) / 2) (by omega) (by omega)
      omega
end HEAP

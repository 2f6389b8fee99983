/-! Folding.fold: facts of places -/
section FOLD2
def sz3 (x : Nat) : Bool := x == 1 || x == 2 || x == 4
def ff1 (f hi wi p : Nat) : Bool := decide (fmi f hi wi (p / p_wi f wi) (p % p_wi f wi) = p_go f hi wi 1 p) && decide (fbi f hi wi (p / p_wi f wi) (p % p_wi f wi) = p_st f hi wi 1 p) && decide (p_go f hi wi 1 p < hi * wi) && decide (p_st f hi wi 1 p < hi * wi) && decide (p / p_wi f wi < p_hi f hi) && decide (p % p_wi f wi < p_wi f wi) && decide (0 < p_wi f wi) && decide (p_hi f hi * p_wi f wi * 2 = hi * wi)
def ff2 (f hi wi p q : Nat) : Bool := (decide (p = q) || (decide (p_go f hi wi 1 p ≠ p_go f hi wi 1 q) && decide (p_st f hi wi 1 p ≠ p_st f hi wi 1 q))) && decide (p_go f hi wi 1 p ≠ p_st f hi wi 1 q)
theorem ff1_tab : ((List.range 5).all fun hi => (List.range 5).all fun wi => (List.range 5).all fun f => !(sz3 hi && sz3 wi && p_can f hi wi) || (List.range (p_hi f hi * p_wi f wi)).all fun p => ff1 f hi wi p) = true := by decide +kernel
theorem ff2_tab : ((List.range 5).all fun hi => (List.range 5).all fun wi => (List.range 5).all fun f => !(sz3 hi && sz3 wi && p_can f hi wi) || (List.range (p_hi f hi * p_wi f wi)).all fun p => (List.range (p_hi f hi * p_wi f wi)).all fun q => ff2 f hi wi p q) = true := by decide +kernel
theorem fold_fin {hi wi f : Nat} (h1 : hi < 5) (h2 : wi < 5) (h3 : f < 5) (hc : (sz3 hi && sz3 wi && p_can f hi wi) = true) (p : Nat) (hp : p < p_hi f hi * p_wi f wi) : fmi f hi wi (p / p_wi f wi) (p % p_wi f wi) = p_go f hi wi 1 p ∧ fbi f hi wi (p / p_wi f wi) (p % p_wi f wi) = p_st f hi wi 1 p ∧ p_go f hi wi 1 p < hi * wi ∧ p_st f hi wi 1 p < hi * wi ∧ p / p_wi f wi < p_hi f hi ∧ p % p_wi f wi < p_wi f wi ∧ 0 < p_wi f wi ∧ p_hi f hi * p_wi f wi * 2 = hi * wi := by
  have := rg (imp_t (rg (rg (rg ff1_tab h1) h2) h3) hc) hp
  simp only [ff1, Bool.and_eq_true, decide_eq_true_eq] at this
  obtain ⟨⟨⟨⟨⟨⟨⟨a, b⟩, c⟩, d⟩, e⟩, f⟩, g⟩, h⟩ := this
  exact ⟨a, b, c, d, e, f, g, h⟩
theorem fold_fin2 {hi wi f : Nat} (h1 : hi < 5) (h2 : wi < 5) (h3 : f < 5) (hc : (sz3 hi && sz3 wi && p_can f hi wi) = true) (p : Nat) (hp : p < p_hi f hi * p_wi f wi) (q : Nat) (hq : q < p_hi f hi * p_wi f wi) : (p_go f hi wi 1 p = p_go f hi wi 1 q → p = q) ∧ (p_st f hi wi 1 p = p_st f hi wi 1 q → p = q) ∧ p_go f hi wi 1 p ≠ p_st f hi wi 1 q := by
  have := rg (rg (imp_t (rg (rg (rg ff2_tab h1) h2) h3) hc) hp) hq
  simp only [ff2, Bool.and_eq_true, Bool.or_eq_true, decide_eq_true_eq] at this
  obtain ⟨a | ⟨b, c⟩, d⟩ := this
  · exact ⟨fun _ => a, fun _ => a, d⟩
  · exact ⟨fun z => absurd z b, fun z => absurd z c, d⟩
theorem p_go_ma (f hi wi ma p : Nat) : p_go f hi wi ma p = ma * p_go f hi wi 1 p := by simp [p_go]
theorem p_st_ma (f hi wi ma p : Nat) : p_st f hi wi ma p = ma * p_st f hi wi 1 p := by simp [p_st]
/-- whether a place has been turned by the first p places -/
def fTg (f hi wi p q : Nat) : Bool := (List.range p).any (fun p' => p_go f hi wi 1 p' == q)
theorem fTg_s {f hi wi p q : Nat} : fTg f hi wi (p + 1) q = (fTg f hi wi p q || (p_go f hi wi 1 p == q)) := by
  simp [fTg, List.range_succ, List.any_append]
theorem fTg_t {f hi wi p q : Nat} (hq : q < p) : fTg f hi wi p (p_go f hi wi 1 q) = true := by
  simp only [fTg, List.any_eq_true, List.mem_range, beq_iff_eq]; exact ⟨q, hq, rfl⟩
theorem fTg_f {f hi wi p q : Nat} (hq : ∀ p', p' < p → p_go f hi wi 1 p' ≠ q) : fTg f hi wi p q = false := by
  simp only [fTg, List.any_eq_false, List.mem_range, beq_iff_eq]; exact hq
/-- where a layer came from -/
def fSrc (f hi wi ma t : Nat) : Nat := if t % (2 * ma) < ma then ma * p_go f hi wi 1 (t / (2 * ma)) + (ma - 1 - t % (2 * ma)) else ma * p_st f hi wi 1 (t / (2 * ma)) + (t % (2 * ma) - ma)
theorem dm {ma G a : Nat} (ha : a < ma) : (ma * G + a) / ma = G ∧ (ma * G + a) % ma = a := by
  refine ⟨?_, ?_⟩
  · rw [Nat.mul_add_div (by omega), Nat.div_eq_of_lt ha, Nat.add_zero]
  · rw [Nat.mul_add_mod, Nat.mod_eq_of_lt ha]
theorem p_fold_src (f hi wi ma : Nat) (ly : Nat → Lay) (t : Nat) : p_fold f hi wi ma ly t = if t % (2 * ma) < ma then p_turn f (ly (fSrc f hi wi ma t)) else ly (fSrc f hi wi ma t) := by
  unfold p_fold fSrc
  split
  · rw [p_go_ma]
  · rw [p_st_ma]
theorem p_turn_ly (f : Nat) (x : Lay) : p_turn f x = (x.1, lyT (decide (f < 3)) x.2) := by
  obtain ⟨a, b, c⟩ := x
  unfold p_turn lyT
  by_cases h : f < 3 <;> simp [h]
theorem fSrc_div {f hi wi ma t : Nat} (hm : 0 < ma) : fSrc f hi wi ma t / ma = if t % (2 * ma) < ma then p_go f hi wi 1 (t / (2 * ma)) else p_st f hi wi 1 (t / (2 * ma)) := by
  have h1 := Nat.mod_lt t (show 2 * ma > 0 by omega)
  unfold fSrc
  split
  · exact (dm (by omega)).1
  · exact (dm (by omega)).1
theorem fSrc_mod {f hi wi ma t : Nat} (hm : 0 < ma) : fSrc f hi wi ma t % ma = if t % (2 * ma) < ma then ma - 1 - t % (2 * ma) else t % (2 * ma) - ma := by
  have h1 := Nat.mod_lt t (show 2 * ma > 0 by omega)
  unfold fSrc
  split
  · exact (dm (by omega)).2
  · exact (dm (by omega)).2
theorem fSrc_inj {f hi wi ma : Nat} (hm : 0 < ma) (P : Nat) (h2 : ∀ p, p < P → ∀ q, q < P → ((p_go f hi wi 1 p = p_go f hi wi 1 q → p = q) ∧ (p_st f hi wi 1 p = p_st f hi wi 1 q → p = q) ∧ p_go f hi wi 1 p ≠ p_st f hi wi 1 q)) {t u : Nat} (ht : t / (2 * ma) < P) (hu : u / (2 * ma) < P) (he : fSrc f hi wi ma t = fSrc f hi wi ma u) : t = u := by
  have d1 := congrArg (· / ma) he
  have m1 := congrArg (· % ma) he
  simp only [fSrc_div hm, fSrc_mod hm] at d1 m1
  have a1 := Nat.mod_lt t (show 2 * ma > 0 by omega)
  have a2 := Nat.mod_lt u (show 2 * ma > 0 by omega)
  have key : t / (2 * ma) = u / (2 * ma) ∧ t % (2 * ma) = u % (2 * ma) := by
    by_cases q1 : t % (2 * ma) < ma <;> by_cases q2 : u % (2 * ma) < ma <;> simp only [q1, q2, if_true, if_false] at d1 m1
    · exact ⟨(h2 _ ht _ hu).1 d1, by omega⟩
    · exact absurd d1 (h2 _ ht _ hu).2.2
    · exact absurd d1.symm (h2 _ hu _ ht).2.2
    · exact ⟨(h2 _ ht _ hu).2.1 d1, by omega⟩
  rw [← Nat.div_add_mod t (2 * ma), ← Nat.div_add_mod u (2 * ma), key.1, key.2]
end FOLD2

/-! folding, as a law of numbers: the layers of a sheet of hi by wi places with ma layers each; a layer: its cell, mirrored, upside down -/
section PURE1
set_option maxRecDepth 100000
def p_hi (f hi : Nat) : Nat := if f < 3 then hi else hi / 2
def p_wi (f wi : Nat) : Nat := if f < 3 then wi / 2 else wi
def p_sr (f r hi' : Nat) : Nat := if f = 3 then r + hi' else r
def p_sc (f c wi' : Nat) : Nat := if f = 1 then c + wi' else c
def p_gr (f hi r sr : Nat) : Nat := if f < 3 then r else hi - 1 - sr
def p_gc (f wi c sc : Nat) : Nat := if f < 3 then wi - 1 - sc else c
/-- where the layers of place p that stay, that go over, begin -/
def p_st (f hi wi ma p : Nat) : Nat := ma * (wi * p_sr f (p / p_wi f wi) (p_hi f hi) + p_sc f (p % p_wi f wi) (p_wi f wi))
def p_go (f hi wi ma p : Nat) : Nat := ma * (wi * p_gr f hi (p / p_wi f wi) (p_sr f (p / p_wi f wi) (p_hi f hi)) + p_gc f wi (p % p_wi f wi) (p_sc f (p % p_wi f wi) (p_wi f wi)))
abbrev Lay : Type := Nat × Bool × Bool
def p_turn (f : Nat) (x : Lay) : Lay := if f < 3 then (x.1, !x.2.1, x.2.2) else (x.1, x.2.1, !x.2.2)
def p_fold (f hi wi ma : Nat) (ly : Nat → Lay) : Nat → Lay := fun t =>
  if t % (2 * ma) < ma then p_turn f (ly (p_go f hi wi ma (t / (2 * ma)) + (ma - 1 - t % (2 * ma)))) else ly (p_st f hi wi ma (t / (2 * ma)) + (t % (2 * ma) - ma))
def p_side (x : Lay) : Bool := x.2.1 != x.2.2
/-- a fold that can be done -/
def p_can (f hi wi : Nat) : Bool := decide (1 ≤ f ∧ f ≤ 4) && (if f < 3 then decide (1 < wi) else decide (1 < hi))
def p_ok (hi wi ma : Nat) : Bool := (hi == 1 || hi == 2 || hi == 4) && (wi == 1 || wi == 2 || wi == 4) && (ma == 1 || ma == 2 || ma == 4 || ma == 8 || ma == 16) && decide (hi * wi * ma ≤ 16)
def p_fb (f hi wi ma p : Nat) : Bool := decide (p_sr f (p / p_wi f wi) (p_hi f hi) + 1 ≤ hi) && decide (p_sc f (p % p_wi f wi) (p_wi f wi) + 1 ≤ wi) && decide (p_go f hi wi ma p + ma ≤ hi * wi * ma) && decide (p_st f hi wi ma p + ma ≤ hi * wi * ma) && decide (2 * ma * p + 2 * ma ≤ hi * wi * ma)
theorem rg {n : Nat} {P : Nat → Bool} (h : (List.range n).all P = true) {i : Nat} (hi : i < n) : P i = true := List.all_eq_true.mp h i (List.mem_range.mpr hi)
theorem imp_t {a b : Bool} (h : (!a || b) = true) (ha : a = true) : b = true := by cases a <;> simp_all
theorem p_fb_tab : ((List.range 5).all fun hi => (List.range 5).all fun wi => (List.range 17).all fun ma => !p_ok hi wi ma || (List.range 5).all fun f => !p_can f hi wi || (List.range 16).all fun p => !decide (p < p_hi f hi * p_wi f wi) || p_fb f hi wi ma p) = true := by decide +kernel
theorem p_fb_all (hi : Nat) (h1 : hi < 5) (wi : Nat) (h2 : wi < 5) (ma : Nat) (h3 : ma < 17) (h : p_ok hi wi ma = true) (f : Nat) (hf : f < 5) (hc : p_can f hi wi = true) (p : Nat) (hp : p < 16) (hq : p < p_hi f hi * p_wi f wi) : p_fb f hi wi ma p = true :=
  imp_t (rg (imp_t (rg (imp_t (rg (rg (rg p_fb_tab h1) h2) h3) h) hf) hc) hp) (by simp [hq])
theorem p_ok_tab : ((List.range 5).all fun hi => (List.range 5).all fun wi => (List.range 17).all fun ma => !p_ok hi wi ma || (List.range 5).all fun f => !p_can f hi wi || (p_ok (p_hi f hi) (p_wi f wi) (2 * ma) && decide (p_hi f hi * p_wi f wi * (2 * ma) = hi * wi * ma ∧ 0 < p_wi f wi ∧ p_hi f hi * p_wi f wi < 16))) = true := by decide +kernel
theorem p_ok_fold_all (hi : Nat) (h1 : hi < 5) (wi : Nat) (h2 : wi < 5) (ma : Nat) (h3 : ma < 17) (h : p_ok hi wi ma = true) (f : Nat) (hf : f < 5) (hc : p_can f hi wi = true) : p_ok (p_hi f hi) (p_wi f wi) (2 * ma) = true ∧ p_hi f hi * p_wi f wi * (2 * ma) = hi * wi * ma ∧ 0 < p_wi f wi ∧ p_hi f hi * p_wi f wi < 16 := by
  have := imp_t (rg (imp_t (rg (rg (rg p_ok_tab h1) h2) h3) h) hf) hc
  simpa only [Bool.and_eq_true, decide_eq_true_eq] using this
theorem p_ok_b {hi wi ma : Nat} (h : p_ok hi wi ma = true) : hi < 5 ∧ wi < 5 ∧ ma < 17 ∧ 1 ≤ hi ∧ 1 ≤ wi ∧ 1 ≤ ma ∧ hi * wi * ma ≤ 16 := by
  simp only [p_ok, Bool.and_eq_true, Bool.or_eq_true, beq_iff_eq, decide_eq_true_eq] at h
  omega
theorem p_can_b {f hi wi : Nat} (h : p_can f hi wi = true) : f < 5 ∧ 1 ≤ f := by
  simp only [p_can, Bool.and_eq_true, decide_eq_true_eq] at h
  omega
theorem p_fbx {f hi wi ma p : Nat} (h : p_ok hi wi ma = true) (hc : p_can f hi wi = true) (hp : p < p_hi f hi * p_wi f wi) : p_sr f (p / p_wi f wi) (p_hi f hi) + 1 ≤ hi ∧ p_sc f (p % p_wi f wi) (p_wi f wi) + 1 ≤ wi ∧ p_go f hi wi ma p + ma ≤ hi * wi * ma ∧ p_st f hi wi ma p + ma ≤ hi * wi * ma ∧ 2 * ma * p + 2 * ma ≤ hi * wi * ma := by
  obtain ⟨h1, h2, h3, h4, h5, h6, h7⟩ := p_ok_b h
  have hf := p_can_b hc
  have hq := (p_ok_fold_all hi h1 wi h2 ma h3 h f hf.1 hc).2.2.2
  have := p_fb_all hi h1 wi h2 ma h3 h f hf.1 hc p (by omega) hp
  simp only [p_fb, Bool.and_eq_true, decide_eq_true_eq] at this
  omega
theorem p_okf {f hi wi ma : Nat} (h : p_ok hi wi ma = true) (hc : p_can f hi wi = true) : p_ok (p_hi f hi) (p_wi f wi) (2 * ma) = true ∧ p_hi f hi * p_wi f wi * (2 * ma) = hi * wi * ma ∧ 0 < p_wi f wi ∧ p_hi f hi * p_wi f wi < 16 := by
  obtain ⟨h1, h2, h3, -⟩ := p_ok_b h
  exact p_ok_fold_all hi h1 wi h2 ma h3 h f (p_can_b hc).1 hc
theorem p_fold_lo (f hi wi ma : Nat) (ly : Nat → Lay) (p k : Nat) (hk : k < ma) : p_fold f hi wi ma ly (2 * ma * p + k) = p_turn f (ly (p_go f hi wi ma p + (ma - 1 - k))) := by
  have e1 : (2 * ma * p + k) % (2 * ma) = k := by rw [Nat.mul_add_mod]; exact Nat.mod_eq_of_lt (by omega)
  have e2 : (2 * ma * p + k) / (2 * ma) = p := by rw [Nat.mul_add_div (by omega)]; rw [Nat.div_eq_of_lt (by omega)]; rfl
  unfold p_fold
  rw [e1, e2, if_pos hk]
theorem p_fold_hi (f hi wi ma : Nat) (ly : Nat → Lay) (p k : Nat) (hk : k < ma) : p_fold f hi wi ma ly (2 * ma * p + ma + k) = ly (p_st f hi wi ma p + k) := by
  have e1 : (2 * ma * p + ma + k) % (2 * ma) = ma + k := by rw [Nat.add_assoc, Nat.mul_add_mod]; exact Nat.mod_eq_of_lt (by omega)
  have e2 : (2 * ma * p + ma + k) / (2 * ma) = p := by rw [Nat.add_assoc, Nat.mul_add_div (by omega)]; rw [Nat.div_eq_of_lt (by omega)]; rfl
  unfold p_fold
  rw [e1, e2, if_neg (by omega), Nat.add_sub_cancel_left]
theorem bI_not (b : Bool) : 1 - bI b = bI (!b) := by cases b <;> decide
theorem p_side_turn (f : Nat) (x : Lay) : p_side (p_turn f x) = !p_side x := by
  obtain ⟨c, a, b⟩ := x
  unfold p_turn p_side
  by_cases h : f < 3 <;> simp [h] <;> cases a <;> cases b <;> rfl
end PURE1

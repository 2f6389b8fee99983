/-! Sheet.folding -/
section SHFOLD
set_option maxRecDepth 100000
variable {g : xG} {l : Launch} {h h0 : xH}
/-- more room may be counted as used -/
theorem x_use {M : xM} {d mc ms : Nat} {Q : xO → xH → Prop} {pc : Nat} {L : List (Option Value)} {st : List Value} {uc us uc' us' : Nat} (hc : uc ≤ uc') (hs : us ≤ us') (k : X g l M d mc ms Q pc L st h uc' us') : X g l M d mc ms Q pc L st h uc us :=
  fun p e s m args below meth c H locs ls a1 a2 a3 a4 T hT St => k p e s m args below meth c H locs ls a1 a2 a3 a4 T hT { St with same := St.same.mono hc hs }
theorem ok_sz {hi wi ma f : Nat} (h : p_ok hi wi ma = true) (hc : p_can f hi wi = true) : (sz3 hi && sz3 wi && p_can f hi wi) = true ∧ hi < 5 ∧ wi < 5 ∧ 0 < ma ∧ ma ≤ 8 ∧ hi * wi ≤ 16 ∧ 1 ≤ f ∧ f < 5 ∧ 2 ≤ hi * wi ∧ hi * wi * ma ≤ 16 := by
  simp only [p_ok, p_can, Bool.and_eq_true, Bool.or_eq_true, beq_iff_eq, decide_eq_true_eq, sz3] at h hc ⊢
  obtain ⟨⟨⟨h1, h2⟩, h3⟩, h4⟩ := h
  obtain ⟨h5, h6⟩ := hc
  have h7 : 2 ≤ hi * wi := by
    rcases h1 with (rfl | rfl) | rfl <;> rcases h2 with (rfl | rfl) | rfl <;> first | omega | (exfalso; split at h6 <;> simp at h6)
  have h8 : ma ≤ 8 := by
    have : 2 * ma ≤ hi * wi * ma := Nat.mul_le_mul_right _ h7
    omega
  have h9 : hi * wi ≤ 16 := by
    have : hi * wi * 1 ≤ hi * wi * ma := Nat.mul_le_mul_left _ (by omega)
    omega
  exact ⟨⟨⟨h1, h2⟩, h5, h6⟩, by omega, by omega, by omega, h8, h9, by omega, by omega, h7, h4⟩
/-- the folding that n folds make -/
def FDN (g : xG) (h00 h : xH) (fo hi wi : Nat) (F : Nat → Nat) (n : Nat) : Prop := FD g h00 h fo wi (p_layn hi wi F n).1 (p_layn hi wi F n).2.1 (p_layn hi wi F n).2.2.1 (p_layn hi wi F n).2.2.2
theorem cc_foldN (h00 h : xH) (fo hi wi n d : Nat) (F : Nat → Nat) (hd : 4 ≤ d) (hok : p_ok hi wi 1 = true) (hcs : p_cans hi wi F (n + 1) = true) (hF : FDN g h00 h fo hi wi F n) : ∃ mc ms, mc ≤ 9 ∧ ms ≤ 24 ∧ Ct g l mX5_fold d mc ms [.ref fo, .int (nI (F n))] h (fun o h' => o = .inl none ∧ FDN g h00 h' fo hi wi F (n + 1)) := by
  obtain ⟨a1, a2⟩ := p_layn_ok hok n (p_cans_mono (by omega) hcs)
  have a3 := p_cans_at (k := n) (by omega) hcs
  obtain ⟨b1, b2, b3, b4, b5, b6, b7, b8, b9, b10⟩ := ok_sz a1 a3
  have b11 := cc_fold (l := l) h00 h fo wi _ _ _ (F n) d hd b2 b3 b8 b7 b1 b4 b5 b6 _ hF _ rfl
  have b12 : p_hi (F n) (p_layn hi wi F n).1 * p_wi (F n) (p_layn hi wi F n).2.1 * 2 = (p_layn hi wi F n).1 * (p_layn hi wi F n).2.1 := by
    by_cases z : 0 < p_hi (F n) (p_layn hi wi F n).1 * p_wi (F n) (p_layn hi wi F n).2.1
    · exact (fold_fin b2 b3 b8 b1 0 z).2.2.2.2.2.2.2
    · exfalso
      have := (p_okf a1 a3).2.1
      have z' : p_hi (F n) (p_layn hi wi F n).1 * p_wi (F n) (p_layn hi wi F n).2.1 = 0 := by omega
      rw [z', Nat.zero_mul] at this
      have : 2 * 1 ≤ (p_layn hi wi F n).1 * (p_layn hi wi F n).2.1 * (p_layn hi wi F n).2.2.1 := Nat.mul_le_mul b9 b4
      omega
  have b13 : p_hi (F n) (p_layn hi wi F n).1 * p_wi (F n) (p_layn hi wi F n).2.1 * (2 * (p_layn hi wi F n).2.2.1) ≤ 16 := by
    rw [← Nat.mul_assoc, b12]; exact b10
  exact ⟨_, _, by omega, by omega, b11⟩
end SHFOLD

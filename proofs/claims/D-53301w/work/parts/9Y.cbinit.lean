/-! CribBooklet.<init> -/
section CBINIT
set_option maxRecDepth 100000
variable {g : xG} {l : Launch} {h h0 h' : xH}
theorem s0_z : zN s0_ 0 = 2 ∧ zN s0_ 1 = 4 ∧ zN s0_ 2 = 0 ∧ zN s0_ 7 = 0 ∧ zN s0_ 8 = 0 ∧ zN s0_ 9 = 0 ∧ zN s0_ 10 = 4 ∧ zN s0_ 11 = 5 ∧ zN s0_ 12 = 0 ∧ zN s0_ 37 = 0 := by
  obtain ⟨a, b, c, d, e, f, i, j, k, m⟩ := r0_z
  rw [s0_r]
  exact ⟨(zN_c (noPr_n _ (by omega))).trans a, (zN_c (noPr_n _ (by omega))).trans b, (zN_c (noPr_n _ (by omega))).trans c, (zN_c (noPr_n _ (by omega))).trans d, (zN_c (noPr_n _ (by omega))).trans e, (zN_c (noPr_n _ (by omega))).trans f, (zN_c (noPr_n _ (by omega))).trans i, (zN_c (noPr_n _ (by omega))).trans j, (zN_c (noPr_n _ (by omega))).trans k, (zN_c (noPr_n _ (by omega))).trans m⟩
theorem s0_v : s0_ 0 = nI 2 ∧ s0_ 1 = nI 4 ∧ s0_ 2 = nI 0 ∧ s0_ 7 = nI 0 ∧ s0_ 8 = nI 0 ∧ s0_ 9 = nI 0 ∧ s0_ 10 = nI 4 ∧ s0_ 11 = nI 5 ∧ s0_ 12 = nI 0 ∧ s0_ 37 = nI 0 ∧ s0_ 154 = 0 ∧ s0_ 155 = 0 := by decide +kernel
theorem s0_p {k : Nat} (hk : k < 32) : s0_ (90 + k) = -1 ∧ s0_ (122 + k) = 0 := by
  rw [s0_r]; unfold p_noPrint
  exact ⟨if_pos (by omega), by rw [if_neg (by omega), if_pos (by omega)]⟩
theorem s0_WF : WF s0_ := by
  obtain ⟨a, b, c, d, e, f, i, j, k, m⟩ := s0_z
  obtain ⟨a', b', c', d', e', f', i', j', k', m', -⟩ := s0_v
  refine ⟨⟨by rw [show zHi s0_ = 2 from a]; exact a', by rw [show zWi s0_ = 4 from b]; exact b', by rw [show zNf s0_ = 0 from c]; exact c', fun q hq => absurd hq (by rw [show zNf s0_ = 0 from c]; omega), by rw [show zHi s0_ = 2 from a, show zWi s0_ = 4 from b]; decide, by rw [show zNf s0_ = 0 from c]; rfl⟩, ⟨by rw [d]; exact d', by rw [d]; omega⟩, ⟨by rw [e]; exact e', by rw [e]; omega⟩, ⟨by rw [f]; exact f', by rw [f]; omega⟩, ⟨by rw [i]; exact i', by rw [i]; omega⟩, ⟨by rw [j]; exact j', by rw [j]; omega⟩, ⟨by rw [k]; exact k', by rw [k]; omega⟩, fun q hq => absurd hq (by rw [k]; omega), ⟨by rw [m]; exact m', by rw [m]; omega⟩, fun q hq => absurd hq (by rw [m]; omega), fun q hq => ⟨Or.inl (s0_p hq).1, by rw [(s0_p hq).2]; decide⟩⟩
theorem s0_WS : WS s0_ := ⟨s0_WF, fun x hx => Or.inl (by
  obtain ⟨-, -, -, -, -, -, -, -, -, -, u, v⟩ := s0_v
  rcases (by omega : x = 0 ∨ x = 1) with rfl | rfl
  · exact u
  · exact v)⟩
end CBINIT

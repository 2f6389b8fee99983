section JDK1
set_option maxRecDepth 100000
variable {g : xG} {l : Launch}
theorem xu_noneI {h : xH} {a b : Nat} {e : va_E} : xu h a e b = none ↔ b ≠ a ∧ h b = none := ⟨xu_none, fun q => (xu_n q.1).trans q.2⟩
section
variable {M : xM} {d mc ms : Nat} {Q : xO → xH → Prop} {pc : Nat} {L : List (Option Value)} {st : List Value} {h : xH} {uc us : Nat}
/-- Math.max, Math.min -/
theorem x_mmax {a b idx : Nat} (hl : Cond.methodLink M.1.cls idx Lib.Math.max.name ∈ lw_all) (hd : decode M.2.1 pc = .ok (.invokestatic idx, 3)) (ha : a < 2 ^ 31) (hb : b < 2 ^ 31) (hd1 : 1 ≤ d) (h1 : uc ≤ mc) (h2 : us ≤ ms) (hst : (st.map fun v => v.category).sum ≤ 20) (kk : X g l M d mc ms Q (pc + 3) L (.int (nI (max a b)) :: st) h uc us) : X g l M d mc ms Q pc L (.int (nI b) :: .int (nI a) :: st) h uc us := by
  intro p ev s m args below meth c H locs ls hC hL hR hS
  obtain ⟨hx, hbb, hml, hr, hlk, hnm, hown, hts, hKs, htab⟩ := hC
  have hC : xCx g M p s m args meth c := ⟨hx, hbb, hml, hr, hlk, hnm, hown, hts, hKs, htab⟩
  have e : (if nI a < nI b then nI b else nI a) = nI (max a b) := by
    by_cases q : a < b
    · rw [if_pos ((nI_ltI ha hb).mpr q), show max a b = b by omega]
    · rw [if_neg (fun z => q ((nI_ltI ha hb).mp z)), show max a b = a by omega]
  refine va_mmax hx hbb (hml.trans hL.1.1.symm) hown (hts _ hl) (hts _ q1036) (hts _ q107) (hts _ q1037) hd1 (by show _ + 13 ≤ 64 * d; omega) h1 h2 hd ?_
  rw [e]
  exact kk p ev s m args below meth c H locs ls hC hL hR hS
theorem x_mmin {a b idx : Nat} (hl : Cond.methodLink M.1.cls idx Lib.Math.min.name ∈ lw_all) (hd : decode M.2.1 pc = .ok (.invokestatic idx, 3)) (ha : a < 2 ^ 31) (hb : b < 2 ^ 31) (hd1 : 1 ≤ d) (h1 : uc ≤ mc) (h2 : us ≤ ms) (hst : (st.map fun v => v.category).sum ≤ 20) (kk : X g l M d mc ms Q (pc + 3) L (.int (nI (min a b)) :: st) h uc us) : X g l M d mc ms Q pc L (.int (nI b) :: .int (nI a) :: st) h uc us := by
  intro p ev s m args below meth c H locs ls hC hL hR hS
  obtain ⟨hx, hbb, hml, hr, hlk, hnm, hown, hts, hKs, htab⟩ := hC
  have hC : xCx g M p s m args meth c := ⟨hx, hbb, hml, hr, hlk, hnm, hown, hts, hKs, htab⟩
  have e : (if nI b < nI a then nI b else nI a) = nI (min a b) := by
    by_cases q : b < a
    · rw [if_pos ((nI_ltI hb ha).mpr q), show min a b = b by omega]
    · rw [if_neg (fun z => q ((nI_ltI hb ha).mp z)), show min a b = a by omega]
  refine va_mmin hx hbb (hml.trans hL.1.1.symm) hown (hts _ hl) (hts _ q681) (hts _ q107) (hts _ q682) hd1 (by show _ + 13 ≤ 64 * d; omega) h1 h2 hd ?_
  rw [e]
  exact kk p ev s m args below meth c H locs ls hC hL hR hS
end
theorem j_chkP (h : xH) (i n d : Nat) (v : Value) (hv : xref v) (hi : i < n) (hn : n < 2 ^ 31) : Ct g l mJ24_checkIndex d 0 0 [.int (nI i), .int (nI n), v] h (fun o h' => o = .inl (some (.int (nI i))) ∧ h' = h) := by
  rcases hv with rfl | ⟨a, rfl⟩
  · refine Ct.of [some (.int (nI i)), some (.int (nI n)), some (.null)] (by decide +kernel) rfl (Nat.le_of_ble_eq_true rfl) rfl rfl ?_
    refine x_iload_n (M := mJ24_checkIndex) (pc := 0) dJ24_checkIndex_0 rfl ?_
    refine x_if_lt (M := mJ24_checkIndex) (pc := 1) 9 dJ24_checkIndex_1 (by decide) (fun r_1 => ?_) (fun r_1 => ?_)
    · exact absurd r_1 (nI_nl (by omega))
    · refine x_iload_n (M := mJ24_checkIndex) (pc := 4) dJ24_checkIndex_4 rfl ?_
      refine x_iload_n (M := mJ24_checkIndex) (pc := 5) dJ24_checkIndex_5 rfl ?_
      first | with_reducible refine x_icmp_ltN (M := mJ24_checkIndex) (pc := 6) 16 dJ24_checkIndex_6 (by decide) (by omega) (by omega) (fun c6 => ?_) (fun c6 => ?_) | refine x_icmp_lt (M := mJ24_checkIndex) (pc := 6) 16 dJ24_checkIndex_6 (by decide) (fun c6 => ?_) (fun c6 => ?_)
      · refine x_iload_n (M := mJ24_checkIndex) (pc := 16) dJ24_checkIndex_16 rfl ?_
        refine x_iret (M := mJ24_checkIndex) (pc := 17) dJ24_checkIndex_17 rfl (by first | exact Nat.le_of_ble_eq_true rfl | omega) (by first | exact Nat.le_of_ble_eq_true rfl | omega) ?_
        exact ⟨rfl, rfl⟩
      · omega
  · refine Ct.of [some (.int (nI i)), some (.int (nI n)), some (.ref a)] (by decide +kernel) rfl (Nat.le_of_ble_eq_true rfl) rfl rfl ?_
    refine x_iload_n (M := mJ24_checkIndex) (pc := 0) dJ24_checkIndex_0 rfl ?_
    refine x_if_lt (M := mJ24_checkIndex) (pc := 1) 9 dJ24_checkIndex_1 (by decide) (fun r_1 => ?_) (fun r_1 => ?_)
    · exact absurd r_1 (nI_nl (by omega))
    · refine x_iload_n (M := mJ24_checkIndex) (pc := 4) dJ24_checkIndex_4 rfl ?_
      refine x_iload_n (M := mJ24_checkIndex) (pc := 5) dJ24_checkIndex_5 rfl ?_
      first | with_reducible refine x_icmp_ltN (M := mJ24_checkIndex) (pc := 6) 16 dJ24_checkIndex_6 (by decide) (by omega) (by omega) (fun c6 => ?_) (fun c6 => ?_) | refine x_icmp_lt (M := mJ24_checkIndex) (pc := 6) 16 dJ24_checkIndex_6 (by decide) (fun c6 => ?_) (fun c6 => ?_)
      · refine x_iload_n (M := mJ24_checkIndex) (pc := 16) dJ24_checkIndex_16 rfl ?_
        refine x_iret (M := mJ24_checkIndex) (pc := 17) dJ24_checkIndex_17 rfl (by first | exact Nat.le_of_ble_eq_true rfl | omega) (by first | exact Nat.le_of_ble_eq_true rfl | omega) ?_
        exact ⟨rfl, rfl⟩
      · omega
theorem j_chk (h : xH) (i n d : Nat) (hd : 1 ≤ d) (hi : i < n) (hn : n < 2 ^ 31) : Ct g l mJ23_checkIndex d 0 0 [.int (nI i), .int (nI n)] h (fun o h' => o = .inl (some (.int (nI i))) ∧ h' = h) := by
  refine Ct.of [some (.int (nI i)), some (.int (nI n))] (by decide +kernel) rfl (Nat.le_of_ble_eq_true rfl) rfl rfl ?_
  refine x_iload_n (M := mJ23_checkIndex) (pc := 0) dJ23_checkIndex_0 rfl ?_
  refine x_iload_n (M := mJ23_checkIndex) (pc := 1) dJ23_checkIndex_1 rfl ?_
  refine x_null (M := mJ23_checkIndex) (pc := 2) dJ23_checkIndex_2 ?_
  refine x_S3 (M := mJ23_checkIndex) (pc := 3) (M' := mJ24_checkIndex) q1170 kSJ24_checkIndex dJ23_checkIndex_3 (j_chkP h i n (d - 1) .null xref_null hi hn) (fun v_ h hq_ => ?_)
  obtain ⟨hv_, rfl⟩ := hq_; cases hv_
  refine x_iret (M := mJ23_checkIndex) (pc := 6) dJ23_checkIndex_6 rfl (by first | exact Nat.le_of_ble_eq_true rfl | omega) (by first | exact Nat.le_of_ble_eq_true rfl | omega) ?_
  exact ⟨rfl, rfl⟩
theorem j_newLength (h : xH) (a b c d : Nat) (hd : 1 ≤ d) (hb : 1 ≤ b) (h1 : a < 2 ^ 20) (h2 : b < 2 ^ 20) (h3 : c < 2 ^ 20) : Ct g l mJ22_newLength d 0 0 [.int (nI a), .int (nI b), .int (nI c)] h (fun o h' => o = .inl (some (.int (nI (a + max b c)))) ∧ h' = h) := by
  refine Ct.of [some (.int (nI a)), some (.int (nI b)), some (.int (nI c)), none] (by decide +kernel) rfl (Nat.le_of_ble_eq_true rfl) rfl rfl ?_
  refine x_iload_n (M := mJ22_newLength) (pc := 0) dJ22_newLength_0 rfl ?_
  refine x_iload_n (M := mJ22_newLength) (pc := 1) dJ22_newLength_1 rfl ?_
  refine x_iload_n (M := mJ22_newLength) (pc := 2) dJ22_newLength_2 rfl ?_
  refine x_mmax (M := mJ22_newLength) (pc := 3) q1035 dJ22_newLength_3 (by omega) (by omega) (by first | assumption | omega) (by first | exact Nat.le_of_ble_eq_true rfl | omega) (by first | exact Nat.le_of_ble_eq_true rfl | omega) (by first | exact Nat.le_of_ble_eq_true rfl | (simp [xcat_rf, Value.category])) ?_
  first | with_reducible refine x_iaddN (M := mJ22_newLength) (pc := 6) dJ22_newLength_6 ?_ | refine x_iadd (M := mJ22_newLength) (pc := 6) dJ22_newLength_6 ?_
  refine x_istore3 (M := mJ22_newLength) (pc := 7) dJ22_newLength_7 ?_
  refine x_iconst (M := mJ22_newLength) (pc := 8) (v := nI 0) dJ22_newLength_8 (by decide) ?_
  refine x_iload_n (M := mJ22_newLength) (pc := 9) dJ22_newLength_9 rfl ?_
  first | with_reducible refine x_icmp_geN (M := mJ22_newLength) (pc := 10) 21 dJ22_newLength_10 (by decide) (by omega) (by omega) (fun c10 => ?_) (fun c10 => ?_) | refine x_icmp_ge (M := mJ22_newLength) (pc := 10) 21 dJ22_newLength_10 (by decide) (fun c10 => ?_) (fun c10 => ?_)
  · omega
  · refine x_iload_n (M := mJ22_newLength) (pc := 13) dJ22_newLength_13 rfl ?_
    refine x_ldc (M := mJ22_newLength) (pc := 14) dJ22_newLength_14 q1038 ?_
    refine x_val (M := mJ22_newLength) (pc := 16) ((show (2147483639 : Int32) = nI 2147483639 from rfl)) ?_
    first | with_reducible refine x_icmp_gtN (M := mJ22_newLength) (pc := 16) 21 dJ22_newLength_16 (by decide) (by omega) (by omega) (fun c16 => ?_) (fun c16 => ?_) | refine x_icmp_gt (M := mJ22_newLength) (pc := 16) 21 dJ22_newLength_16 (by decide) (fun c16 => ?_) (fun c16 => ?_)
    · omega
    · refine x_iload_n (M := mJ22_newLength) (pc := 19) dJ22_newLength_19 rfl ?_
      refine x_iret (M := mJ22_newLength) (pc := 20) dJ22_newLength_20 rfl (by first | exact Nat.le_of_ble_eq_true rfl | omega) (by first | exact Nat.le_of_ble_eq_true rfl | omega) ?_
      exact ⟨rfl, rfl⟩
theorem cpyO_eq {α : Type} (f : Nat → Option α) (k : Nat) : va_cpy f (fun _ => none) 0 0 k = fun i => if i < k then f i else none := by
  funext i; unfold va_cpy; simp
/-- Arrays.copyOf of an Object[] -/
theorem j_copyOf2 (h : xH) (a m n d : Nat) (f : Nat → Option Nat) (hd : 1 ≤ d) (ha : xOA g h a m f) (hm : m < 2 ^ 20) (hn : n < 2 ^ 20) (hel : ∀ i, i < min m n → ∀ y, f i = some y → ∃ C, xIs g h y C ∧ xasg C "java/lang/Object") : Ct g l mJ11_copyOf_2 d 1 n [.ref a, .int (nI n), .ref (xca g 0 4)] h (fun o h' => ∃ q, o = .inl (some (.ref q)) ∧ h q = none ∧ h' = xu h q (.inl (xdA g 3, n, .inr (.inr (.inr (.inr (fun k => if k < min m n then f k else none))))))) := by
  refine Ct.of [some (.ref a), some (.int (nI n)), some (.ref (xca g 0 4)), none] (by decide +kernel) rfl (Nat.le_of_ble_eq_true rfl) rfl rfl ?_
  refine x_aload_n (M := mJ11_copyOf_2) (pc := 0) dJ11_copyOf_2_0 rfl ?_
  refine x_ldcM (M := mJ11_copyOf_2) (pc := 1) q678 dJ11_copyOf_2_1 ?_
  refine x_acmp_ne (M := mJ11_copyOf_2) (pc := 3) (some (xca g 0 4)) (some (xca g 0 4)) 13 dJ11_copyOf_2_3 (by decide) rfl rfl (fun c => absurd rfl c) (fun _ => ?_)
  refine x_iload_n (M := mJ11_copyOf_2) (pc := 6) dJ11_copyOf_2_6 rfl ?_
  refine x_anew (M := mJ11_copyOf_2) (pc := 7) 3 _ q679 q323 dJ11_copyOf_2_7 (by first | rfl | assumption) (by first | exact Nat.le_of_ble_eq_true rfl | omega) (by first | exact Nat.le_of_ble_eq_true rfl | omega) (by first | exact Nat.le_of_ble_eq_true rfl | omega) (fun q7_ hq7_ hb7_ => ?_)
  (try simp only [xu_noneI] at hq7_)
  repeat (obtain ⟨_, hq7_⟩ : _ ∧ _ := hq7_)
  refine x_goto (M := mJ11_copyOf_2) (pc := 10) 24 dJ11_copyOf_2_10 (by decide) ?_
  refine x_astore3 (M := mJ11_copyOf_2) (pc := 24) dJ11_copyOf_2_24 ?_
  refine x_aload_n (M := mJ11_copyOf_2) (pc := 25) dJ11_copyOf_2_25 rfl ?_
  refine x_iconst (M := mJ11_copyOf_2) (pc := 26) (v := nI 0) dJ11_copyOf_2_26 (by decide) ?_
  refine x_aload_n (M := mJ11_copyOf_2) (pc := 27) dJ11_copyOf_2_27 rfl ?_
  refine x_iconst (M := mJ11_copyOf_2) (pc := 28) (v := nI 0) dJ11_copyOf_2_28 (by decide) ?_
  refine x_aload_n (M := mJ11_copyOf_2) (pc := 29) dJ11_copyOf_2_29 rfl ?_
  have ha' := ha.le (xle.fr (e := .inl (xdA g 3, n, .inr (.inr (.inr (.inr (fun _ => none)))))) hq7_)
  refine x_alenO (M := mJ11_copyOf_2) (pc := 30) dJ11_copyOf_2_30 ha' ?_
  refine x_iload_n (M := mJ11_copyOf_2) (pc := 31) dJ11_copyOf_2_31 rfl ?_
  refine x_mmin (M := mJ11_copyOf_2) (pc := 32) q680 dJ11_copyOf_2_32 (by omega) (by omega) (by first | assumption | omega) (by first | exact Nat.le_of_ble_eq_true rfl | omega) (by first | exact Nat.le_of_ble_eq_true rfl | omega) (by first | exact Nat.le_of_ble_eq_true rfl | (simp [xcat_rf, Value.category])) ?_
  skip
  refine x_copyO (M := mJ11_copyOf_2) (pc := 35) q683 dJ11_copyOf_2_35 ha' (xu_s _ _ _) (fun i hi y hy => ?_) (by omega) (by omega) (by omega) (by omega) hd (Nat.le_of_ble_eq_true rfl) ?_
  · rw [Nat.zero_add] at hy
    obtain ⟨C, h1, h2⟩ := hel i hi y hy
    exact ⟨C, h1.le (xle.fr hq7_), h2⟩
  refine x_aload_n (M := mJ11_copyOf_2) (pc := 38) dJ11_copyOf_2_38 rfl ?_
  refine x_aret (M := mJ11_copyOf_2) (pc := 39) dJ11_copyOf_2_39 rfl (by first | exact Or.inl ⟨_, rfl⟩ | exact Or.inr ⟨_, rfl⟩) (by first | exact Nat.le_of_ble_eq_true rfl | omega) (by first | exact Nat.le_of_ble_eq_true rfl | omega) ?_
  exact ⟨q7_, rfl, hq7_, by rw [xu_xu, cpyO_eq]⟩
theorem j_copyOf (h : xH) (a m n d : Nat) (f : Nat → Option Nat) (hd : 2 ≤ d) (ha : xOA g h a m f) (hm : m < 2 ^ 20) (hn : n < 2 ^ 20) (hel : ∀ i, i < min m n → ∀ y, f i = some y → ∃ C, xIs g h y C ∧ xasg C "java/lang/Object") : Ct g l mJ11_copyOf d 1 n [.ref a, .int (nI n)] h (fun o h' => ∃ q, o = .inl (some (.ref q)) ∧ h q = none ∧ h' = xu h q (.inl (xdA g 3, n, .inr (.inr (.inr (.inr (fun k => if k < min m n then f k else none))))))) := by
  refine Ct.of [some (.ref a), some (.int (nI n))] (by decide +kernel) rfl (Nat.le_of_ble_eq_true rfl) rfl rfl ?_
  refine x_aload_n (M := mJ11_copyOf) (pc := 0) dJ11_copyOf_0 rfl ?_
  refine x_iload_n (M := mJ11_copyOf) (pc := 1) dJ11_copyOf_1 rfl ?_
  refine x_aload_n (M := mJ11_copyOf) (pc := 2) dJ11_copyOf_2 rfl ?_
  refine x_getC (M := mJ11_copyOf) (pc := 3) q694 dJ11_copyOf_3 ha (by omega) (Nat.le_of_ble_eq_true rfl) ?_
  refine x_S3 (M := mJ11_copyOf) (pc := 6) (M' := mJ11_copyOf_2) q744 kSJ11_copyOf_2 dJ11_copyOf_6 (j_copyOf2 h a m n (d - 1) f (by omega) ha hm hn hel) (fun v_ h hq_ => ?_)
  obtain ⟨q, hv_, hq, hh⟩ := hq_; cases hv_
  refine x_aret (M := mJ11_copyOf) (pc := 9) dJ11_copyOf_9 rfl (by first | exact Or.inl ⟨_, rfl⟩ | exact Or.inr ⟨_, rfl⟩) (by first | exact Nat.le_of_ble_eq_true rfl | omega) (by first | exact Nat.le_of_ble_eq_true rfl | omega) ?_
  exact ⟨q, rfl, hq, hh⟩
end JDK1

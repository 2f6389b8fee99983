section MODELH
set_option maxRecDepth 100000
def p_jn (P : Nat → Nat) (a b : Nat) : Nat → Nat := fun k => if P k = b then a else P k
def p_jA (op : Nat → Nat → Bool) (i : Nat) (P : Nat → Nat) : Nat → Nat → Nat
  | 0 => P
  | j + 1 => if op i (i + 1 + j) then p_jn (p_jA op i P j) (p_jA op i P j i) (p_jA op i P j (i + 1 + j)) else p_jA op i P j
def p_jB (op : Nat → Nat → Bool) (n : Nat) (P : Nat → Nat) : Nat → Nat → Nat
  | 0 => P
  | i + 1 => p_jA op i (p_jB op n P i) (n - (i + 1))
theorem p_jA_t {op : Nat → Nat → Bool} {i j : Nat} {P : Nat → Nat} (h : op i (i + 1 + j) = true) (t : Nat) : p_jn (p_jA op i P j) (p_jA op i P j i) (p_jA op i P j (i + 1 + j)) t = p_jA op i P (j + 1) t := by rw [p_jA, if_pos h]
theorem p_jA_f {op : Nat → Nat → Bool} {i j : Nat} {P : Nat → Nat} (h : op i (i + 1 + j) = false) (t : Nat) : p_jA op i P j t = p_jA op i P (j + 1) t := by rw [p_jA, if_neg (by rw [h]; decide)]
theorem p_jn_lt {P : Nat → Nat} {a b n : Nat} (h : ∀ k, k < n → P k < n) (ha : a < n) : ∀ k, k < n → p_jn P a b k < n := fun k hk => by
  unfold p_jn; split
  · exact ha
  · exact h k hk
theorem p_jA_lt {op : Nat → Nat → Bool} {i n : Nat} {P : Nat → Nat} (hi : i < n) (h : ∀ k, k < n → P k < n) : ∀ j, ∀ k, k < n → p_jA op i P j k < n
  | 0 => h
  | j + 1 => by
    have ih := p_jA_lt hi h j (op := op)
    unfold p_jA; split
    · exact p_jn_lt ih (ih i hi)
    · exact ih
theorem p_jB_lt {op : Nat → Nat → Bool} {n : Nat} {P : Nat → Nat} (h : ∀ k, k < n → P k < n) : ∀ i, i ≤ n → ∀ k, k < n → p_jB op n P i k < n
  | 0, _ => h
  | i + 1, hi => p_jA_lt (by omega) (p_jB_lt h i (by omega)) _
def p_open (c : Nat) (e : Option Nat) : Bool := match e with
  | none => false
  | some k => !c.testBit k
def zHeldN (s : Row) : Nat := if s 9 = 0 then 1 else zN s 10
def zPc (s : Row) : Nat → Nat := p_jB (fun i j => p_open (zN s 8) (p_edge (zWi s) (zLy s) i j)) (zN16 s) (fun k => if k < zHeldN s then 0 else k) (zN16 s)
def q_pieces (s : Row) : Int32 := if zBook s = false then -2 else nI (p_ones 16 (orN (fun k => 2 ^ zPc s k) (zN16 s)))
variable {g : xG} {l : Launch} {m : Nat} {A : Nat → Nat} {I : Nat → Int32} {B : Nat → Nat → Int32} {wd : Int64}
theorem m_joins_l (d n a b : Nat) (h9 : I 9 = nI n) (hn : n ≤ 16) (P : Nat → Nat) (hP : ∀ k, k < n → P k < n) (ha : a < n) (hb : b < n) (h0 : xH) (Q : xO → xH → Prop) (hE : ∀ h T, MR g h m A I (va_up B 27 T) wd → MF m A h0 h → (∀ t, t < n → T t = nI (p_jn P a b t)) → Q (.inl none) h) :
    ∀ q k, k + q = n → ∀ h T, MR g h m A I (va_up B 27 T) wd → MF m A h0 h → (∀ t, t < k → T t = nI (p_jn P a b t)) → (∀ t, k ≤ t → t < n → T t = nI (P t)) → X g l mX3_joins d 0 0 Q 2 [some (.ref m), some (.int (nI a)), some (.int (nI b)), some (.int (nI k))] [] h 0 0 := by
  intro q
  induction q with
  | zero =>
    intro k hk h T hM hF h1 h2
    have : k = n := by omega
    subst this
    refine x_iload_n (M := mX3_joins) (pc := 2) dX3_joins_2 rfl ?_
    refine x_aload_n (M := mX3_joins) (pc := 3) dX3_joins_3 rfl ?_
    refine x_get (M := mX3_joins) (pc := 4) kcX3 9 rfl q2844 dX3_joins_4 hM.1 rfl ?_
    refine x_val (M := mX3_joins) (pc := 7) (h9) ?_
    first | with_reducible refine x_icmp_geN (M := mX3_joins) (pc := 7) 42 dX3_joins_7 (by decide) (by omega) (by omega) (fun c1 => ?_) (fun c1 => ?_) | refine x_icmp_ge (M := mX3_joins) (pc := 7) 42 dX3_joins_7 (by decide) (fun c1 => ?_) (fun c1 => ?_)
    · exact x_vret (pc := 42) dX3_joins_42 rfl (Nat.le_refl 0) (Nat.le_refl 0) (hE h T hM hF h1)
    · omega
  | succ q ih =>
    intro k hk h T hM hF h1 h2
    have hPk := hP k (by omega)
    have hTk : va_up B 27 T 27 k = nI (P k) := by rw [va_up_s]; exact h2 k (by omega) (by omega)
    refine x_iload_n (M := mX3_joins) (pc := 2) dX3_joins_2 rfl ?_
    refine x_aload_n (M := mX3_joins) (pc := 3) dX3_joins_3 rfl ?_
    refine x_get (M := mX3_joins) (pc := 4) kcX3 9 rfl q2844 dX3_joins_4 hM.1 rfl ?_
    refine x_val (M := mX3_joins) (pc := 7) (h9) ?_
    first | with_reducible refine x_icmp_geN (M := mX3_joins) (pc := 7) 42 dX3_joins_7 (by decide) (by omega) (by omega) (fun c1 => ?_) (fun c1 => ?_) | refine x_icmp_ge (M := mX3_joins) (pc := 7) 42 dX3_joins_7 (by decide) (fun c1 => ?_) (fun c1 => ?_)
    · omega
    refine x_aload_n (M := mX3_joins) (pc := 10) dX3_joins_10 rfl ?_
    refine x_get (M := mX3_joins) (pc := 11) kcX3 27 rfl q2862 dX3_joins_11 hM.1 rfl ?_
    refine x_iload_n (M := mX3_joins) (pc := 14) dX3_joins_14 rfl ?_
    refine x_joinV 35 (nI (p_jn P a b k)) (fun J => ?_) ?_
    · refine x_aload_n (M := mX3_joins) (pc := 15) dX3_joins_15 rfl ?_
      refine x_get (M := mX3_joins) (pc := 16) kcX3 27 rfl q2862 dX3_joins_16 hM.1 rfl ?_
      refine x_iload_n (M := mX3_joins) (pc := 19) dX3_joins_19 rfl ?_
      refine xm_ialdV (M := mX3_joins) (pc := 20) hM dX3_joins_20 (hTk) (by decide) (by first | decide | (simp only [mSz] <;> omega)) ?_
      refine x_iload_n (M := mX3_joins) (pc := 21) dX3_joins_21 rfl ?_
      first | with_reducible refine x_icmp_neN (M := mX3_joins) (pc := 22) 29 dX3_joins_22 (by decide) (by omega) (by omega) (fun c22 => ?_) (fun c22 => ?_) | refine x_icmp_ne (M := mX3_joins) (pc := 22) 29 dX3_joins_22 (by decide) (fun c22 => ?_) (fun c22 => ?_)
      · refine x_aload_n (M := mX3_joins) (pc := 29) dX3_joins_29 rfl ?_
        refine x_get (M := mX3_joins) (pc := 30) kcX3 27 rfl q2862 dX3_joins_30 hM.1 rfl ?_
        refine x_iload_n (M := mX3_joins) (pc := 33) dX3_joins_33 rfl ?_
        refine xm_ialdV (M := mX3_joins) (pc := 34) hM dX3_joins_34 (hTk) (by decide) (by first | decide | (simp only [mSz] <;> omega)) ?_
        exact J _ (by first | rw [p_jn, if_pos c22] | rw [p_jn, if_neg c22])
      · refine x_iload_n (M := mX3_joins) (pc := 25) dX3_joins_25 rfl ?_
        refine x_goto (M := mX3_joins) (pc := 26) 35 dX3_joins_26 (by decide) ?_
        exact J _ (by first | rw [p_jn, if_pos c22] | rw [p_jn, if_neg c22])
    refine xm_iast (M := mX3_joins) (pc := 35) hM hF dX3_joins_35 (by decide) (by first | decide | (simp only [mSz] <;> omega)) (fun h hM hF => ?_)
    first | refine x_iinc3N (M := mX3_joins) (pc := 36) (c := 1) dX3_joins_36 oI1 ?_ | refine x_iinc3 (M := mX3_joins) (pc := 36) (c := 1) dX3_joins_36 (by decide) ?_
    refine x_goto (M := mX3_joins) (pc := 39) 2 dX3_joins_39 (by decide) ?_
    skip
    refine ih (k + 1) (by omega) h (upd T k (nI (p_jn P a b k))) (hM.up2 fun t => by rw [va_up_s]) hF (fun t ht => ?_) (fun t ht ht2 => ?_)
    · unfold upd; split
      · next e => rw [e]
      · exact h1 t (by omega)
    · unfold upd; rw [if_neg (by omega)]; exact h2 t (by omega) ht2
theorem m_joins (d n a b : Nat) (h9 : I 9 = nI n) (hn : n ≤ 16) (P : Nat → Nat) (hP : ∀ k, k < n → P k < n) (ha : a < n) (hb : b < n) (T : Nat → Int32) (hT : ∀ k, k < n → T k = nI (P k)) : MC g l mX3_joins d [.int (nI a), .int (nI b)] m A I (va_up B 27 T) wd (fun v I' B' wd' => v = none ∧ I' = I ∧ wd' = wd ∧ ∃ T', B' = va_up B 27 T' ∧ ∀ k, k < n → T' k = nI (p_jn P a b k)) := by
  intro h hM
  refine Ct.of [some (.ref m), some (.int (nI a)), some (.int (nI b)), none] (by decide +kernel) rfl (Nat.le_of_ble_eq_true rfl) rfl rfl ?_
  refine x_iconst (M := mX3_joins) (pc := 0) (v := nI 0) dX3_joins_0 (by decide) ?_
  refine x_istore3 (M := mX3_joins) (pc := 1) dX3_joins_1 ?_
  exact m_joins_l d n a b h9 hn P hP ha hb h _ (fun h' T' hM' hF' hT' => ⟨_, _, _, _, rfl, ⟨rfl, rfl, rfl, T', rfl, hT'⟩, hM', hF'⟩) n 0 (Nat.zero_add _) h T hM MF.rf (fun t ht => absurd ht (Nat.not_lt_zero _)) (fun t _ ht => hT t ht)
end MODELH
section MODELH2
set_option maxRecDepth 100000
variable {g : xG} {l : Launch} {m : Nat} {A : Nat → Nat} {I : Nat → Int32} {B : Nat → Nat → Int32} {wd : Int64}
theorem orN_lt' {f : Nat → Nat} {k : Nat} : ∀ n, (∀ i, i < n → f i < 2 ^ k) → orN f n < 2 ^ k
  | 0, _ => Nat.two_pow_pos k
  | n + 1, h => Nat.or_lt_two_pow (orN_lt' n (fun i hi => h i (by omega))) (h n (by omega))
theorem BK.up {n wi : Nat} {ly : Nat → Lay} (hB : BK I B n wi ly) (j : Nat) (hj : 13 < j) (T : Nat → Int32) : BK I (va_up B j T) n wi ly :=
  hB.moved rfl (by rw [va_up_n _ _ (show (0 : Nat) ≠ j by omega)]) (fun i _ hi => by rw [va_up_n _ _ (show i ≠ j by omega)])
theorem m_pieces_l1 (d n he : Nat) (h9 : I 9 = nI n) (hn : n ≤ 16) (hhe : he ≤ 16) (a3 a4 a5 : Option Value) (h0 : xH) (Q : xO → xH → Prop)
    (hE : ∀ h T, MR g h m A I (va_up B 27 T) wd → MF m A h0 h → (∀ t, t < n → T t = nI (if t < he then 0 else t)) → X g l mX3_pieces d 0 0 Q 64 [some (.ref m), some (.int (nI he)), some (.int (nI n)), a3, a4, a5] [] h 0 0) :
    ∀ q k, k + q = n → ∀ h T, MR g h m A I (va_up B 27 T) wd → MF m A h0 h → (∀ t, t < k → T t = nI (if t < he then 0 else t)) → X g l mX3_pieces d 0 0 Q 34 [some (.ref m), some (.int (nI he)), some (.int (nI k)), a3, a4, a5] [] h 0 0 := by
  intro q
  induction q with
  | zero =>
    intro k hk h T hM hF h1
    have : k = n := by omega
    subst this
    refine x_iload_n (M := mX3_pieces) (pc := 34) dX3_pieces_34 rfl ?_
    refine x_aload_n (M := mX3_pieces) (pc := 35) dX3_pieces_35 rfl ?_
    refine x_get (M := mX3_pieces) (pc := 36) kcX3 9 rfl q2844 dX3_pieces_36 hM.1 rfl ?_
    refine x_val (M := mX3_pieces) (pc := 39) (h9) ?_
    first | with_reducible refine x_icmp_geN (M := mX3_pieces) (pc := 39) 64 dX3_pieces_39 (by decide) (by omega) (by omega) (fun c1 => ?_) (fun c1 => ?_) | refine x_icmp_ge (M := mX3_pieces) (pc := 39) 64 dX3_pieces_39 (by decide) (fun c1 => ?_) (fun c1 => ?_)
    · exact hE h T hM hF h1
    · omega
  | succ q ih =>
    intro k hk h T hM hF h1
    refine x_iload_n (M := mX3_pieces) (pc := 34) dX3_pieces_34 rfl ?_
    refine x_aload_n (M := mX3_pieces) (pc := 35) dX3_pieces_35 rfl ?_
    refine x_get (M := mX3_pieces) (pc := 36) kcX3 9 rfl q2844 dX3_pieces_36 hM.1 rfl ?_
    refine x_val (M := mX3_pieces) (pc := 39) (h9) ?_
    first | with_reducible refine x_icmp_geN (M := mX3_pieces) (pc := 39) 64 dX3_pieces_39 (by decide) (by omega) (by omega) (fun c1 => ?_) (fun c1 => ?_) | refine x_icmp_ge (M := mX3_pieces) (pc := 39) 64 dX3_pieces_39 (by decide) (fun c1 => ?_) (fun c1 => ?_)
    · omega
    refine x_aload_n (M := mX3_pieces) (pc := 42) dX3_pieces_42 rfl ?_
    refine x_get (M := mX3_pieces) (pc := 43) kcX3 27 rfl q2862 dX3_pieces_43 hM.1 rfl ?_
    refine x_iload_n (M := mX3_pieces) (pc := 46) dX3_pieces_46 rfl ?_
    refine x_joinV 57 (nI (if k < he then 0 else k)) (fun J => ?_) ?_
    · refine x_iload_n (M := mX3_pieces) (pc := 47) dX3_pieces_47 rfl ?_
      refine x_iload_n (M := mX3_pieces) (pc := 48) dX3_pieces_48 rfl ?_
      first | with_reducible refine x_icmp_geN (M := mX3_pieces) (pc := 49) 56 dX3_pieces_49 (by decide) (by omega) (by omega) (fun c49 => ?_) (fun c49 => ?_) | refine x_icmp_ge (M := mX3_pieces) (pc := 49) 56 dX3_pieces_49 (by decide) (fun c49 => ?_) (fun c49 => ?_)
      · refine x_iload_n (M := mX3_pieces) (pc := 56) dX3_pieces_56 rfl ?_
        exact J _ (by first | rw [if_pos (by omega)] | rw [if_neg (by omega)])
      · refine x_iconst (M := mX3_pieces) (pc := 52) (v := nI 0) dX3_pieces_52 (by decide) ?_
        refine x_goto (M := mX3_pieces) (pc := 53) 57 dX3_pieces_53 (by decide) ?_
        exact J _ (by first | rw [if_pos (by omega)] | rw [if_neg (by omega)])
    refine xm_iast (M := mX3_pieces) (pc := 57) hM hF dX3_pieces_57 (by decide) (by first | decide | (simp only [mSz] <;> omega)) (fun h hM hF => ?_)
    first | refine x_iinc2N (M := mX3_pieces) (pc := 58) (c := 1) dX3_pieces_58 oI1 ?_ | refine x_iinc2 (M := mX3_pieces) (pc := 58) (c := 1) dX3_pieces_58 (by decide) ?_
    refine x_goto (M := mX3_pieces) (pc := 61) 34 dX3_pieces_61 (by decide) ?_
    skip
    refine ih (k + 1) (by omega) h (upd T k (nI (if k < he then 0 else k))) (hM.up2 fun t => by rw [va_up_s]) hF (fun t ht => ?_)
    unfold upd; split
    · next e => rw [e]
    · exact h1 t (by omega)
theorem m_pieces_l2 (d : Nat) (hd : 3 ≤ d) (s : Row) (ly : Nat → Lay) (hB : BW I B s ly) (hW : WF s) (i : Nat) (hi : i < zN16 s) (P : Nat → Nat) (hP : ∀ k, k < zN16 s → P k < zN16 s) (a1 : Option Value) (h0 : xH) (Q : xO → xH → Prop)
    (hE : ∀ h T a5, MR g h m A I (va_up B 27 T) wd → MF m A h0 h → (∀ t, t < zN16 s → T t = nI (p_jA (fun i j => p_open (zN s 8) (p_edge (zWi s) ly i j)) i P (zN16 s - (i + 1)) t)) → X g l mX3_pieces d 0 0 Q 142 [some (.ref m), a1, some (.int (nI 0)), some (.int (nI i)), some (.int (nI (zN16 s))), a5] [] h 0 0) :
    ∀ q k, k + q = zN16 s - (i + 1) → ∀ h T a5, MR g h m A I (va_up B 27 T) wd → MF m A h0 h → (∀ t, t < zN16 s → T t = nI (p_jA (fun i j => p_open (zN s 8) (p_edge (zWi s) ly i j)) i P k t)) → X g l mX3_pieces d 0 0 Q 81 [some (.ref m), a1, some (.int (nI 0)), some (.int (nI i)), some (.int (nI (i + 1 + k))), a5] [] h 0 0 := by
  have b2 := hB.1.2.2.2.2.1
  have h9 := hB.1.1
  intro q
  induction q with
  | zero =>
    intro k hk h T a5 hM hF hT
    have : k = zN16 s - (i + 1) := by omega
    subst this
    refine x_iload (M := mX3_pieces) (pc := 81) dX3_pieces_81 rfl ?_
    refine x_aload_n (M := mX3_pieces) (pc := 83) dX3_pieces_83 rfl ?_
    refine x_get (M := mX3_pieces) (pc := 84) kcX3 9 rfl q2844 dX3_pieces_84 hM.1 rfl ?_
    refine x_val (M := mX3_pieces) (pc := 87) (h9) ?_
    first | with_reducible refine x_icmp_geN (M := mX3_pieces) (pc := 87) 142 dX3_pieces_87 (by decide) (by omega) (by omega) (fun c1 => ?_) (fun c1 => ?_) | refine x_icmp_ge (M := mX3_pieces) (pc := 87) 142 dX3_pieces_87 (by decide) (fun c1 => ?_) (fun c1 => ?_)
    · rw [show i + 1 + (zN16 s - (i + 1)) = zN16 s by omega]; exact hE h T a5 hM hF hT
    · omega
  | succ q ih =>
    intro k hk h T a5 hM hF hT
    have hPl := p_jA_lt (op := fun i j => p_open (zN s 8) (p_edge (zWi s) ly i j)) hi hP k
    have hpi := hPl i hi
    have hpj := hPl (i + 1 + k) (by omega)
    refine x_iload (M := mX3_pieces) (pc := 81) dX3_pieces_81 rfl ?_
    refine x_aload_n (M := mX3_pieces) (pc := 83) dX3_pieces_83 rfl ?_
    refine x_get (M := mX3_pieces) (pc := 84) kcX3 9 rfl q2844 dX3_pieces_84 hM.1 rfl ?_
    refine x_val (M := mX3_pieces) (pc := 87) (h9) ?_
    first | with_reducible refine x_icmp_geN (M := mX3_pieces) (pc := 87) 142 dX3_pieces_87 (by decide) (by omega) (by omega) (fun c1 => ?_) (fun c1 => ?_) | refine x_icmp_ge (M := mX3_pieces) (pc := 87) 142 dX3_pieces_87 (by decide) (fun c1 => ?_) (fun c1 => ?_)
    · omega
    refine x_aload_n (M := mX3_pieces) (pc := 90) dX3_pieces_90 rfl ?_
    refine x_iload_n (M := mX3_pieces) (pc := 91) dX3_pieces_91 rfl ?_
    refine x_iload (M := mX3_pieces) (pc := 92) dX3_pieces_92 rfl ?_
    refine x_V2 (M := mX3_pieces) (pc := 94) (M' := mX3_edgeOf) q3034 kVX3_edgeOf dX3_pieces_94 (m_edgeOf (d - 1) _ _ ly (hB.1.up 27 (by omega) T) i (i + 1 + k) (by omega) (by omega) h hM) (hM.is) (fun v_ h hq_ => ?_)
    obtain ⟨hv_, rfl⟩ := hq_
    cases hv_
    cases he : p_edge (zWi s) ly i (i + 1 + k) with
    | none =>
      refine x_val (M := mX3_pieces) (pc := 97) (w := -1) rfl ?_
      refine x_istore5 (M := mX3_pieces) (pc := 97) dX3_pieces_97 ?_
      refine x_iload (M := mX3_pieces) (pc := 99) dX3_pieces_99 rfl ?_
      first | refine x_if_lt (M := mX3_pieces) (pc := 101) 136 dX3_pieces_101 (by decide) (fun c101 => ?_) (fun c101 => ?_)
      · first | refine x_iinc4N (M := mX3_pieces) (pc := 136) (c := 1) dX3_pieces_136 oI1 ?_ | refine x_iinc4 (M := mX3_pieces) (pc := 136) (c := 1) dX3_pieces_136 (by decide) ?_
        refine x_goto (M := mX3_pieces) (pc := 139) 81 dX3_pieces_139 (by decide) ?_
        exact ih (k + 1) (by omega) h T _ hM hF (fun t ht => (hT t ht).trans (congrArg nI (p_jA_f (by simp only [he]; rfl) t)))
      · exact absurd (by decide) c101
    | some e =>
      have he4 := p_edge_lt he
      have h8 : va_up B 27 T 0 8 = nI (zN s 8) := by rw [va_up_n _ _ (show (0 : Nat) ≠ 27 by decide), hB.2]; exact hW.2.2.1.1
      have h8b := hW.2.2.1.2
      refine x_val (M := mX3_pieces) (pc := 97) (w := nI e) rfl ?_
      refine x_istore5 (M := mX3_pieces) (pc := 97) dX3_pieces_97 ?_
      refine x_iload (M := mX3_pieces) (pc := 99) dX3_pieces_99 rfl ?_
      first | refine x_if_lt (M := mX3_pieces) (pc := 101) 136 dX3_pieces_101 (by decide) (fun c101 => ?_) (fun c101 => ?_)
      · exact absurd c101 (nI_pos (by omega))
      · refine x_aload_n (M := mX3_pieces) (pc := 104) dX3_pieces_104 rfl ?_
        refine x_get (M := mX3_pieces) (pc := 105) kcX3 0 rfl q2835 dX3_pieces_105 hM.1 rfl ?_
        refine x_bipush (M := mX3_pieces) (pc := 108) (v := nI 8) dX3_pieces_108 (by decide) ?_
        refine xm_ialdV (M := mX3_pieces) (pc := 110) hM dX3_pieces_110 (h8) (by decide) (by first | decide | (simp only [mSz] <;> omega)) ?_
        refine x_iload (M := mX3_pieces) (pc := 111) dX3_pieces_111 rfl ?_
        refine x_S2 (M := mX3_pieces) (pc := 113) (M' := mX3_has) q3027 kSX3_has dX3_pieces_113 (m_has_n h (zN s 8) e (by omega) (by omega) (d - 1)) (fun v_ h hq_ => ?_)
        obtain ⟨hv_, rfl⟩ := hq_; cases hv_
        first | with_reducible refine x_ifB_ne (M := mX3_pieces) (pc := 116) 136 dX3_pieces_116 (by decide) (fun c116 => ?_) (fun c116 => ?_) | with_reducible refine x_if_neN (M := mX3_pieces) (pc := 116) 136 dX3_pieces_116 (by decide) (by omega) (fun c116 => ?_) (fun c116 => ?_) | refine x_if_ne (M := mX3_pieces) (pc := 116) 136 dX3_pieces_116 (by decide) (fun c116 => ?_) (fun c116 => ?_)
        · first | refine x_iinc4N (M := mX3_pieces) (pc := 136) (c := 1) dX3_pieces_136 oI1 ?_ | refine x_iinc4 (M := mX3_pieces) (pc := 136) (c := 1) dX3_pieces_136 (by decide) ?_
          refine x_goto (M := mX3_pieces) (pc := 139) 81 dX3_pieces_139 (by decide) ?_
          first | exact ih (k + 1) (by omega) h T _ hM hF (fun t ht => (hT t ht).trans (congrArg nI (p_jA_f (by simp only [he, p_open, c116]; rfl) t))) | exact ih (k + 1) (by omega) h T' _ hM hF (fun t ht => (hT' t ht).trans (congrArg nI (p_jA_t (by simp only [he, p_open, c116]; rfl) t)))
        · refine x_aload_n (M := mX3_pieces) (pc := 119) dX3_pieces_119 rfl ?_
          refine x_aload_n (M := mX3_pieces) (pc := 120) dX3_pieces_120 rfl ?_
          refine x_get (M := mX3_pieces) (pc := 121) kcX3 27 rfl q2862 dX3_pieces_121 hM.1 rfl ?_
          refine x_iload_n (M := mX3_pieces) (pc := 124) dX3_pieces_124 rfl ?_
          refine xm_ialdV (M := mX3_pieces) (pc := 125) hM dX3_pieces_125 ((by rw [va_up_s]; exact hT i hi : _ = nI (p_jA (fun i j => p_open (zN s 8) (p_edge (zWi s) ly i j)) i P k i))) (by decide) (by first | decide | (simp only [mSz] <;> omega)) ?_
          refine x_aload_n (M := mX3_pieces) (pc := 126) dX3_pieces_126 rfl ?_
          refine x_get (M := mX3_pieces) (pc := 127) kcX3 27 rfl q2862 dX3_pieces_127 hM.1 rfl ?_
          refine x_iload (M := mX3_pieces) (pc := 130) dX3_pieces_130 rfl ?_
          refine xm_ialdV (M := mX3_pieces) (pc := 132) hM dX3_pieces_132 ((by rw [va_up_s]; exact hT _ (by omega) : _ = nI (p_jA (fun i j => p_open (zN s 8) (p_edge (zWi s) ly i j)) i P k (i + 1 + k)))) (by decide) (by first | decide | (simp only [mSz] <;> omega)) ?_
          refine x_V2 (M := mX3_pieces) (pc := 133) (M' := mX3_joins) q3258 kVX3_joins dX3_pieces_133 (m_joins (d - 1) _ _ _ h9 b2 _ hPl hpi hpj T hT h hM) (hM.is) (fun v_ h hq_ => ?_)
          obtain ⟨v_, I_, B_, wd_, hv_, hQ, hM_, hF_⟩ := hq_
          cases hv_
          replace hF := hF.tr hF_
          replace hM := hM_
          clear hM_ hF_
          obtain ⟨rfl, rfl, rfl, T', rfl, hT'⟩ := hQ
          first | refine x_iinc4N (M := mX3_pieces) (pc := 136) (c := 1) dX3_pieces_136 oI1 ?_ | refine x_iinc4 (M := mX3_pieces) (pc := 136) (c := 1) dX3_pieces_136 (by decide) ?_
          refine x_goto (M := mX3_pieces) (pc := 139) 81 dX3_pieces_139 (by decide) ?_
          first | exact ih (k + 1) (by omega) h T _ hM hF (fun t ht => (hT t ht).trans (congrArg nI (p_jA_f (by simp only [he, p_open, c116]; rfl) t))) | exact ih (k + 1) (by omega) h T' _ hM hF (fun t ht => (hT' t ht).trans (congrArg nI (p_jA_t (by simp only [he, p_open, c116]; rfl) t)))
theorem m_pieces_l3 (d : Nat) (hd : 3 ≤ d) (s : Row) (ly : Nat → Lay) (hB : BW I B s ly) (hW : WF s) (P : Nat → Nat) (hP : ∀ k, k < zN16 s → P k < zN16 s) (a1 : Option Value) (h0 : xH) (Q : xO → xH → Prop)
    (hE : ∀ h T a4 a5, MR g h m A I (va_up B 27 T) wd → MF m A h0 h → (∀ t, t < zN16 s → T t = nI (p_jB (fun i j => p_open (zN s 8) (p_edge (zWi s) ly i j)) (zN16 s) P (zN16 s) t)) → X g l mX3_pieces d 0 0 Q 148 [some (.ref m), a1, some (.int (nI 0)), some (.int (nI (zN16 s))), a4, a5] [] h 0 0) :
    ∀ q i, i + q = zN16 s → ∀ h T a4 a5, MR g h m A I (va_up B 27 T) wd → MF m A h0 h → (∀ t, t < zN16 s → T t = nI (p_jB (fun i j => p_open (zN s 8) (p_edge (zWi s) ly i j)) (zN16 s) P i t)) → X g l mX3_pieces d 0 0 Q 68 [some (.ref m), a1, some (.int (nI 0)), some (.int (nI i)), a4, a5] [] h 0 0 := by
  have b2 := hB.1.2.2.2.2.1
  have h9 := hB.1.1
  intro q
  induction q with
  | zero =>
    intro i hi h T a4 a5 hM hF hT
    have : i = zN16 s := by omega
    subst this
    refine x_iload_n (M := mX3_pieces) (pc := 68) dX3_pieces_68 rfl ?_
    refine x_aload_n (M := mX3_pieces) (pc := 69) dX3_pieces_69 rfl ?_
    refine x_get (M := mX3_pieces) (pc := 70) kcX3 9 rfl q2844 dX3_pieces_70 hM.1 rfl ?_
    refine x_val (M := mX3_pieces) (pc := 73) (h9) ?_
    first | with_reducible refine x_icmp_geN (M := mX3_pieces) (pc := 73) 148 dX3_pieces_73 (by decide) (by omega) (by omega) (fun c1 => ?_) (fun c1 => ?_) | refine x_icmp_ge (M := mX3_pieces) (pc := 73) 148 dX3_pieces_73 (by decide) (fun c1 => ?_) (fun c1 => ?_)
    · exact hE h T a4 a5 hM hF hT
    · omega
  | succ q ih =>
    intro i hi h T a4 a5 hM hF hT
    refine x_iload_n (M := mX3_pieces) (pc := 68) dX3_pieces_68 rfl ?_
    refine x_aload_n (M := mX3_pieces) (pc := 69) dX3_pieces_69 rfl ?_
    refine x_get (M := mX3_pieces) (pc := 70) kcX3 9 rfl q2844 dX3_pieces_70 hM.1 rfl ?_
    refine x_val (M := mX3_pieces) (pc := 73) (h9) ?_
    first | with_reducible refine x_icmp_geN (M := mX3_pieces) (pc := 73) 148 dX3_pieces_73 (by decide) (by omega) (by omega) (fun c1 => ?_) (fun c1 => ?_) | refine x_icmp_ge (M := mX3_pieces) (pc := 73) 148 dX3_pieces_73 (by decide) (fun c1 => ?_) (fun c1 => ?_)
    · omega
    refine x_iload_n (M := mX3_pieces) (pc := 76) dX3_pieces_76 rfl ?_
    refine x_iconst (M := mX3_pieces) (pc := 77) (v := nI 1) dX3_pieces_77 (by decide) ?_
    first | with_reducible refine x_iaddN (M := mX3_pieces) (pc := 78) dX3_pieces_78 ?_ | refine x_iadd (M := mX3_pieces) (pc := 78) dX3_pieces_78 ?_
    refine x_istore4 (M := mX3_pieces) (pc := 79) dX3_pieces_79 ?_
    refine m_pieces_l2 d hd s ly hB hW i (by omega) (p_jB (fun i j => p_open (zN s 8) (p_edge (zWi s) ly i j)) (zN16 s) P i) (p_jB_lt hP i (by omega)) a1 h0 Q (fun h T a5 hM hF hT => ?_) _ 0 (Nat.zero_add _) h T a5 hM hF hT
    first | refine x_iinc3N (M := mX3_pieces) (pc := 142) (c := 1) dX3_pieces_142 oI1 ?_ | refine x_iinc3 (M := mX3_pieces) (pc := 142) (c := 1) dX3_pieces_142 (by decide) ?_
    refine x_goto (M := mX3_pieces) (pc := 145) 68 dX3_pieces_145 (by decide) ?_
    exact ih (i + 1) (by omega) h T _ _ hM hF hT
theorem m_pieces_l4 (d n : Nat) (hd : 2 ≤ d) (h9 : I 9 = nI n) (hn : n ≤ 16) (P : Nat → Nat) (hP : ∀ k, k < n → P k < n) (T : Nat → Int32) (hT : ∀ t, t < n → T t = nI (P t)) (a1 : Option Value) (h : xH) (hM : MR g h m A I (va_up B 27 T) wd) (Q : xO → xH → Prop) (hE : Q (.inl (some (.int (nI (0 + p_ones 16 (orN (fun k => 2 ^ P k) n)))))) h) :
    ∀ q k, k + q = n → ∀ a5, X g l mX3_pieces d 0 0 Q 153 [some (.ref m), a1, some (.int (nI 0)), some (.int (nI (orN (fun k => 2 ^ P k) k))), some (.int (nI k)), a5] [] h 0 0 := by
  have hlt : ∀ k, k ≤ n → orN (fun k => 2 ^ P k) k < 2 ^ 16 := fun k hk => orN_lt' k (fun i hi => Nat.pow_lt_pow_right (by omega) (by have := hP i (by omega); omega))
  intro q
  induction q with
  | zero =>
    intro k hk a5
    have : k = n := by omega
    subst this
    have := hlt k (Nat.le_refl _)
    refine x_iload (M := mX3_pieces) (pc := 153) dX3_pieces_153 rfl ?_
    refine x_aload_n (M := mX3_pieces) (pc := 155) dX3_pieces_155 rfl ?_
    refine x_get (M := mX3_pieces) (pc := 156) kcX3 9 rfl q2844 dX3_pieces_156 hM.1 rfl ?_
    refine x_val (M := mX3_pieces) (pc := 159) (h9) ?_
    first | with_reducible refine x_icmp_geN (M := mX3_pieces) (pc := 159) 180 dX3_pieces_159 (by decide) (by omega) (by omega) (fun c1 => ?_) (fun c1 => ?_) | refine x_icmp_ge (M := mX3_pieces) (pc := 159) 180 dX3_pieces_159 (by decide) (fun c1 => ?_) (fun c1 => ?_)
    · refine x_iload_n (M := mX3_pieces) (pc := 180) dX3_pieces_180 rfl ?_
      refine x_iload_n (M := mX3_pieces) (pc := 181) dX3_pieces_181 rfl ?_
      refine x_S1 (M := mX3_pieces) (pc := 182) (M' := mX3_ones) q3043 kSX3_ones dX3_pieces_182 (m_ones h _ (d - 1) (by omega)) (fun v_ h hq_ => ?_)
      obtain ⟨hv_, rfl⟩ := hq_; cases hv_
      first | with_reducible refine x_iaddN (M := mX3_pieces) (pc := 185) dX3_pieces_185 ?_ | refine x_iadd (M := mX3_pieces) (pc := 185) dX3_pieces_185 ?_
      exact x_iret (pc := 186) dX3_pieces_186 rfl (Nat.le_refl 0) (Nat.le_refl 0) hE
    · omega
  | succ q ih =>
    intro k hk a5
    have hpk := hP k (by omega)
    refine x_iload (M := mX3_pieces) (pc := 153) dX3_pieces_153 rfl ?_
    refine x_aload_n (M := mX3_pieces) (pc := 155) dX3_pieces_155 rfl ?_
    refine x_get (M := mX3_pieces) (pc := 156) kcX3 9 rfl q2844 dX3_pieces_156 hM.1 rfl ?_
    refine x_val (M := mX3_pieces) (pc := 159) (h9) ?_
    first | with_reducible refine x_icmp_geN (M := mX3_pieces) (pc := 159) 180 dX3_pieces_159 (by decide) (by omega) (by omega) (fun c1 => ?_) (fun c1 => ?_) | refine x_icmp_ge (M := mX3_pieces) (pc := 159) 180 dX3_pieces_159 (by decide) (fun c1 => ?_) (fun c1 => ?_)
    · omega
    refine x_iload_n (M := mX3_pieces) (pc := 162) dX3_pieces_162 rfl ?_
    refine x_iconst (M := mX3_pieces) (pc := 163) (v := nI 1) dX3_pieces_163 (by decide) ?_
    refine x_aload_n (M := mX3_pieces) (pc := 164) dX3_pieces_164 rfl ?_
    refine x_get (M := mX3_pieces) (pc := 165) kcX3 27 rfl q2862 dX3_pieces_165 hM.1 rfl ?_
    refine x_iload (M := mX3_pieces) (pc := 168) dX3_pieces_168 rfl ?_
    refine xm_ialdV (M := mX3_pieces) (pc := 170) hM dX3_pieces_170 ((by rw [va_up_s]; exact hT k (by omega) : _ = nI (P k))) (by decide) (by first | decide | (simp only [mSz] <;> omega)) ?_
    refine x_ishl (M := mX3_pieces) (pc := 171) dX3_pieces_171 ?_
    refine x_val (M := mX3_pieces) (pc := 172) (nI_one (P k) (by omega)) ?_
    refine x_ior (M := mX3_pieces) (pc := 172) dX3_pieces_172 ?_
    refine x_istore3 (M := mX3_pieces) (pc := 173) dX3_pieces_173 ?_
    first | refine x_iinc4N (M := mX3_pieces) (pc := 174) (c := 1) dX3_pieces_174 oI1 ?_ | refine x_iinc4 (M := mX3_pieces) (pc := 174) (c := 1) dX3_pieces_174 (by decide) ?_
    refine x_goto (M := mX3_pieces) (pc := 177) 153 dX3_pieces_177 (by decide) ?_
    rw [nI_or]; exact ih (k + 1) (by omega) _
theorem QF.lf27 {I' : Nat → Int32} {B' : Nat → Nat → Int32} {wd' : Int64} {v0 : Int32} {v : Option Value} {T : Nat → Int32} (hv : v = some (.int v0)) (h : LF I B wd I' B' wd') : QF I B v0 v I' (va_up B' 27 T) wd' := by
  have z := QF.lf (v := v) (v0 := v0) hv h
  exact ⟨z.1, z.2.1, z.2.2.1, z.2.2.2.1, (va_up_n _ _ (by decide)).trans z.2.2.2.2.1, (va_up_n _ _ (by decide)).trans z.2.2.2.2.2.1, (va_up_n _ _ (by decide)).trans z.2.2.2.2.2.2⟩
theorem m_pieces (d : Nat) (hd : 4 ≤ d) (hW : WF (B 0)) : MC g l mX3_pieces d [] m A I B wd (QF I B (q_pieces (B 0))) := by
  intro h hM
  have hF : MF m A h h := MF.rf
  refine Ct.of [some (.ref m), none, none, none, none, none] (by decide +kernel) rfl (Nat.le_of_ble_eq_true rfl) rfl rfl ?_
  refine x_aload_n (M := mX3_pieces) (pc := 0) dX3_pieces_0 rfl ?_
  refine x_V0 (M := mX3_pieces) (pc := 1) (M' := mX3_isBooklet) q3023 kVX3_isBooklet dX3_pieces_1 (m_isBooklet (d - 1) _ _ _ _ (by omega) hW.1 h hM) (hM.is) (fun v_ h hq_ => ?_)
  obtain ⟨v_, I_, B_, wd_, hv_, hQ, hM_, hF_⟩ := hq_
  cases hv_
  replace hF := hF.tr hF_
  replace hM := hM_
  clear hM_ hF_
  obtain ⟨rfl, hL, hY⟩ := hQ
  first | with_reducible refine x_ifB_ne (M := mX3_pieces) (pc := 4) 10 dX3_pieces_4 (by decide) (fun c4 => ?_) (fun c4 => ?_) | with_reducible refine x_if_neN (M := mX3_pieces) (pc := 4) 10 dX3_pieces_4 (by decide) (by omega) (fun c4 => ?_) (fun c4 => ?_) | refine x_if_ne (M := mX3_pieces) (pc := 4) 10 dX3_pieces_4 (by decide) (fun c4 => ?_) (fun c4 => ?_)
  rotate_left
  · refine x_bipush (M := mX3_pieces) (pc := 7) (v := (-2)) dX3_pieces_7 (by decide) ?_
    refine x_iret (M := mX3_pieces) (pc := 9) dX3_pieces_9 rfl (Nat.le_refl 0) (Nat.le_refl 0) ⟨_, _, _, _, rfl, ?_, hM, hF⟩
    exact QF.lf (by rw [q_pieces, if_pos (show zBook (B 0) = false from c4)]) hL
  skip
  have hB := BW_now rfl hW c4 hL hY
  have b2 := hB.1.2.2.2.2.1
  have b1 := hB.1.2.2.2.1
  have hB0 := hB.2
  obtain ⟨h10, h10a, h10b⟩ := hW.2.2.2.2.1
  have hq : q_pieces (B 0) = nI (0 + p_ones 16 (orN (fun k => 2 ^ zPc (B 0) k) (zN16 (B 0)))) := by
    unfold q_pieces
    rw [if_neg (show ¬ zBook (B 0) = false by rw [show zBook (B 0) = true from c4]; decide), Nat.zero_add]
  have hle : zHeldN (B 0) ≤ 16 := by unfold zHeldN; split <;> omega
  refine x_joinV 31 (nI (zHeldN (B 0))) (fun J => ?_) ?_
  · refine x_aload_n (M := mX3_pieces) (pc := 10) dX3_pieces_10 rfl ?_
    refine x_get (M := mX3_pieces) (pc := 11) kcX3 0 rfl q2835 dX3_pieces_11 hM.1 rfl ?_
    refine x_bipush (M := mX3_pieces) (pc := 14) (v := nI 9) dX3_pieces_14 (by decide) ?_
    refine xm_iald (M := mX3_pieces) (pc := 16) hM dX3_pieces_16 (by decide) (by first | decide | (simp only [mSz] <;> omega)) ?_
    refine x_if_ne (M := mX3_pieces) (pc := 17) 24 dX3_pieces_17 (by decide) (fun r_1 => ?_) (fun r_1 => ?_)
    · refine x_aload_n (M := mX3_pieces) (pc := 24) dX3_pieces_24 rfl ?_
      refine x_get (M := mX3_pieces) (pc := 25) kcX3 0 rfl q2835 dX3_pieces_25 hM.1 rfl ?_
      refine x_bipush (M := mX3_pieces) (pc := 28) (v := nI 10) dX3_pieces_28 (by decide) ?_
      refine xm_ialdV (M := mX3_pieces) (pc := 30) hM dX3_pieces_30 ((by rw [hB0]; exact h10 : _ = nI (zN (B 0) 10))) (by decide) (by first | decide | (simp only [mSz] <;> omega)) ?_
      exact J _ (by rw [hB0] at r_1; first | (rw [zHeldN, if_pos r_1]; done) | (rw [zHeldN, if_pos r_1]; rfl) | (rw [zHeldN, if_neg r_1]))
    · refine x_iconst (M := mX3_pieces) (pc := 20) (v := nI 1) dX3_pieces_20 (by decide) ?_
      refine x_goto (M := mX3_pieces) (pc := 21) 31 dX3_pieces_21 (by decide) ?_
      exact J _ (by rw [hB0] at r_1; first | (rw [zHeldN, if_pos r_1]; done) | (rw [zHeldN, if_pos r_1]; rfl) | (rw [zHeldN, if_neg r_1]))
  refine x_istore1 (M := mX3_pieces) (pc := 31) dX3_pieces_31 ?_
  refine x_iconst (M := mX3_pieces) (pc := 32) (v := nI 0) dX3_pieces_32 (by decide) ?_
  refine x_istore2 (M := mX3_pieces) (pc := 33) dX3_pieces_33 ?_
  skip
  refine m_pieces_l1 d (zN16 (B 0)) (zHeldN (B 0)) hB.1.1 b2 hle _ _ _ _ _ (fun h T hM hF hT => ?_) _ 0 (Nat.zero_add _) h (B_ 27) (by rw [va_up_id]; exact hM) hF (fun t ht => absurd ht (Nat.not_lt_zero _))
  refine x_iconst (M := mX3_pieces) (pc := 64) (v := nI 0) dX3_pieces_64 (by decide) ?_
  refine x_istore2 (M := mX3_pieces) (pc := 65) dX3_pieces_65 ?_
  refine x_iconst (M := mX3_pieces) (pc := 66) (v := nI 0) dX3_pieces_66 (by decide) ?_
  refine x_istore3 (M := mX3_pieces) (pc := 67) dX3_pieces_67 ?_
  have hP0 : ∀ k, k < zN16 (B 0) → (if k < zHeldN (B 0) then 0 else k) < zN16 (B 0) := fun k hk => by split <;> omega
  refine m_pieces_l3 d (by omega) (B 0) (zLy (B 0)) hB hW (fun k => if k < zHeldN (B 0) then 0 else k) hP0 _ _ _ (fun h T a4 a5 hM hF hT => ?_) _ 0 (Nat.zero_add _) h T _ _ hM hF hT
  refine x_iconst (M := mX3_pieces) (pc := 148) (v := nI 0) dX3_pieces_148 (by decide) ?_
  refine x_istore3 (M := mX3_pieces) (pc := 149) dX3_pieces_149 ?_
  refine x_iconst (M := mX3_pieces) (pc := 150) (v := nI 0) dX3_pieces_150 (by decide) ?_
  refine x_istore4 (M := mX3_pieces) (pc := 151) dX3_pieces_151 ?_
  exact m_pieces_l4 d (zN16 (B 0)) (by omega) hB.1.1 b2 (zPc (B 0)) (p_jB_lt hP0 _ (Nat.le_refl _)) T hT _ h hM _ ⟨_, _, _, _, rfl, QF.lf27 (by rw [hq]) hL, hM, hF⟩ _ 0 (Nat.zero_add _) _
end MODELH2

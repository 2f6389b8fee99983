section MODELO
set_option maxRecDepth 100000
def isL (c : Nat) : Bool := decide (97 ≤ c ∧ c ≤ 122)
def isF (c : Nat) : Bool := decide (48 ≤ c ∧ c ≤ 57)
def t_wd (tx : Nat → Nat) (p : Nat) : Nat → Int64
  | 0 => 0
  | k + 1 => if k < 11 then 32 * t_wd tx p k + (nI (tx (p + k))).toInt64 - 96 else 0
def t_nm (tx : Nat → Nat) (p : Nat) : Nat → Nat
  | 0 => 0
  | k + 1 => if k < 4 then 10 * t_nm tx p k + tx (p + k) - 48 else t_nm tx p k
def t_end (P : Nat → Bool) (tx : Nat → Nat) (len p : Nat) : Nat := fstN (fun k => !P (tx k)) (len - p) p
/-- the text that the reference holds -/
def TX (I : Nat → Int32) (B : Nat → Nat → Int32) (len : Nat) (tx : Nat → Nat) : Prop := I 4 = nI len ∧ len ≤ 120 ∧ (∀ k, k < len → B 5 k = nI (tx k)) ∧ ∀ k, tx k < 256
variable {g : xG} {l : Launch} {m : Nat} {A : Nat → Nat} {I : Nat → Int32} {B : Nat → Nat → Int32} {wd : Int64}
theorem upd_id {f : Nat → Int32} {k : Nat} {x : Int32} (h : f k = x) : upd f k x = f := by
  funext j; unfold upd
  by_cases e : j = k
  · rw [if_pos e, e, h]
  · rw [if_neg e]
theorem upd_4 (f : Nat → Int32) {a b : Nat} (hab : a ≠ b) (x y x' y' : Int32) : upd (upd (upd (upd f a x) b y) b y') a x' = upd (upd f a x') b y' := by
  funext j; unfold upd
  by_cases e : j = a
  · subst e; simp [hab]
  · by_cases e2 : j = b
    · subst e2; simp [e]
    · simp [e, e2]
theorem m_isLetter (h : xH) (c d : Nat) (hd : 1 ≤ d) (hc : c < 2 ^ 31) : Ct g l mX3_isLetter d 0 0 [.int (nI c)] h (fun o h' => o = .inl (some (.int (bI (isL c)))) ∧ h' = h) := by
  refine Ct.of [some (.int (nI c))] (by decide +kernel) rfl (Nat.le_of_ble_eq_true rfl) rfl rfl ?_
  refine x_iload_n (M := mX3_isLetter) (pc := 0) dX3_isLetter_0 rfl ?_
  refine x_i2l (M := mX3_isLetter) (pc := 1) dX3_isLetter_1 ?_
  refine x_ldc2 (M := mX3_isLetter) (pc := 2) dX3_isLetter_2 q3113 ?_
  refine x_ldc2 (M := mX3_isLetter) (pc := 5) dX3_isLetter_5 q3114 ?_
  refine x_S3 (M := mX3_isLetter) (pc := 8) (M' := mX3_in) q2949 kSX3_in dX3_isLetter_8 (m_inN h c 97 122 97 122 (by decide) (by decide) hc (by omega) (by omega) (d - 1)) (fun v_ h hq_ => ?_)
  obtain ⟨hv_, rfl⟩ := hq_; cases hv_
  refine x_zret (M := mX3_isLetter) (pc := 11) dX3_isLetter_11 rfl (by first | with_reducible exact xz0 | with_reducible exact xz1 | with_reducible exact bI_01 _ | with_reducible assumption | assumption) (Nat.le_refl 0) (Nat.le_refl 0) ?_
  exact ⟨rfl, rfl⟩
theorem m_isFigure (h : xH) (c d : Nat) (hd : 1 ≤ d) (hc : c < 2 ^ 31) : Ct g l mX3_isFigure d 0 0 [.int (nI c)] h (fun o h' => o = .inl (some (.int (bI (isF c)))) ∧ h' = h) := by
  refine Ct.of [some (.int (nI c))] (by decide +kernel) rfl (Nat.le_of_ble_eq_true rfl) rfl rfl ?_
  refine x_iload_n (M := mX3_isFigure) (pc := 0) dX3_isFigure_0 rfl ?_
  refine x_i2l (M := mX3_isFigure) (pc := 1) dX3_isFigure_1 ?_
  refine x_ldc2 (M := mX3_isFigure) (pc := 2) dX3_isFigure_2 q3124 ?_
  refine x_ldc2 (M := mX3_isFigure) (pc := 5) dX3_isFigure_5 q3125 ?_
  refine x_S3 (M := mX3_isFigure) (pc := 8) (M' := mX3_in) q2949 kSX3_in dX3_isFigure_8 (m_inN h c 48 57 48 57 (by decide) (by decide) hc (by omega) (by omega) (d - 1)) (fun v_ h hq_ => ?_)
  obtain ⟨hv_, rfl⟩ := hq_; cases hv_
  refine x_zret (M := mX3_isFigure) (pc := 11) dX3_isFigure_11 rfl (by first | with_reducible exact xz0 | with_reducible exact xz1 | with_reducible exact bI_01 _ | with_reducible assumption | assumption) (Nat.le_refl 0) (Nat.le_refl 0) ?_
  exact ⟨rfl, rfl⟩
theorem m_readWord_l (d len p : Nat) (tx : Nat → Nat) (hd : 2 ≤ d) (hT : TX I B len tx) (h0 : xH) (Q : xO → xH → Prop)
    (hE : ∀ h, MR g h m A (upd I 18 (nI (t_end isL tx len p))) B (t_wd tx p (t_end isL tx len p - p)) → MF m A h0 h → ∀ a1, X g l mX3_readWord d 0 0 Q 86 [some (.ref m), a1] [] h 0 0) :
    ∀ q k, p + k + q = len → t_end isL tx len p = fstN (fun k => !isL (tx k)) q (p + k) → ∀ h, MR g h m A (upd I 18 (nI (p + k))) B (t_wd tx p k) → MF m A h0 h → X g l mX3_readWord d 0 0 Q 7 [some (.ref m), some (.int (nI k))] [] h 0 0 := by
  obtain ⟨h4, hlen, h5, htx⟩ := hT
  have e4 : ∀ x, upd I 18 x 4 = nI len := fun x => (upd_n I x (by decide)).trans h4
  intro q
  induction q with
  | zero =>
    intro k hk he h hM hF
    rw [fstN] at he
    refine x_aload_n (M := mX3_readWord) (pc := 7) dX3_readWord_7 rfl ?_
    refine x_get (M := mX3_readWord) (pc := 8) kcX3 18 rfl q2853 dX3_readWord_8 hM.1 rfl ?_
    refine x_val (M := mX3_readWord) (pc := 11) (upd_s I 18 (nI (p + k))) ?_
    refine x_aload_n (M := mX3_readWord) (pc := 11) dX3_readWord_11 rfl ?_
    refine x_get (M := mX3_readWord) (pc := 12) kcX3 4 rfl q2839 dX3_readWord_12 hM.1 rfl ?_
    refine x_val (M := mX3_readWord) (pc := 15) (e4 _) ?_
    first | with_reducible refine x_icmp_geN (M := mX3_readWord) (pc := 15) 86 dX3_readWord_15 (by decide) (by omega) (by omega) (fun c1 => ?_) (fun c1 => ?_) | refine x_icmp_ge (M := mX3_readWord) (pc := 15) 86 dX3_readWord_15 (by decide) (fun c1 => ?_) (fun c1 => ?_)
    · rw [he, show p + k - p = k by omega] at hE; exact hE h hM hF _
    · omega
  | succ q ih =>
    intro k hk he h hM hF
    have ht := htx (p + k)
    refine x_aload_n (M := mX3_readWord) (pc := 7) dX3_readWord_7 rfl ?_
    refine x_get (M := mX3_readWord) (pc := 8) kcX3 18 rfl q2853 dX3_readWord_8 hM.1 rfl ?_
    refine x_val (M := mX3_readWord) (pc := 11) (upd_s I 18 (nI (p + k))) ?_
    refine x_aload_n (M := mX3_readWord) (pc := 11) dX3_readWord_11 rfl ?_
    refine x_get (M := mX3_readWord) (pc := 12) kcX3 4 rfl q2839 dX3_readWord_12 hM.1 rfl ?_
    refine x_val (M := mX3_readWord) (pc := 15) (e4 _) ?_
    first | with_reducible refine x_icmp_geN (M := mX3_readWord) (pc := 15) 86 dX3_readWord_15 (by decide) (by omega) (by omega) (fun c1 => ?_) (fun c1 => ?_) | refine x_icmp_ge (M := mX3_readWord) (pc := 15) 86 dX3_readWord_15 (by decide) (fun c1 => ?_) (fun c1 => ?_)
    · omega
    refine x_aload_n (M := mX3_readWord) (pc := 18) dX3_readWord_18 rfl ?_
    refine x_get (M := mX3_readWord) (pc := 19) kcX3 5 rfl q2840 dX3_readWord_19 hM.1 rfl ?_
    refine x_aload_n (M := mX3_readWord) (pc := 22) dX3_readWord_22 rfl ?_
    refine x_get (M := mX3_readWord) (pc := 23) kcX3 18 rfl q2853 dX3_readWord_23 hM.1 rfl ?_
    refine x_val (M := mX3_readWord) (pc := 26) (upd_s I 18 (nI (p + k))) ?_
    refine xm_ialdV (M := mX3_readWord) (pc := 26) hM dX3_readWord_26 (h5 (p + k) (by omega)) (by decide) (by first | decide | (simp only [mSz] <;> omega)) ?_
    refine x_S1 (M := mX3_readWord) (pc := 27) (M' := mX3_isLetter) q3110 kSX3_isLetter dX3_readWord_27 (m_isLetter h (tx (p + k)) (d - 1) (by omega) (by omega)) (fun v_ h hq_ => ?_)
    obtain ⟨hv_, rfl⟩ := hq_; cases hv_
    first | with_reducible refine x_ifB_eq (M := mX3_readWord) (pc := 30) 86 dX3_readWord_30 (by decide) (fun c30 => ?_) (fun c30 => ?_) | with_reducible refine x_if_eqN (M := mX3_readWord) (pc := 30) 86 dX3_readWord_30 (by decide) (by omega) (fun c30 => ?_) (fun c30 => ?_) | refine x_if_eq (M := mX3_readWord) (pc := 30) 86 dX3_readWord_30 (by decide) (fun c30 => ?_) (fun c30 => ?_)
    · rw [fstN, if_pos (by rw [c30]; rfl)] at he; rw [he, show p + k - p = k by omega] at hE; exact hE h hM hF _
    · refine x_aload_n (M := mX3_readWord) (pc := 33) dX3_readWord_33 rfl ?_
      refine x_iload_n (M := mX3_readWord) (pc := 34) dX3_readWord_34 rfl ?_
      refine x_bipush (M := mX3_readWord) (pc := 35) (v := nI 11) dX3_readWord_35 (by decide) ?_
      first | with_reducible refine x_icmp_geN (M := mX3_readWord) (pc := 37) 66 dX3_readWord_37 (by decide) (by omega) (by omega) (fun c37 => ?_) (fun c37 => ?_) | refine x_icmp_ge (M := mX3_readWord) (pc := 37) 66 dX3_readWord_37 (by decide) (fun c37 => ?_) (fun c37 => ?_)
      · refine x_lconst (M := mX3_readWord) (pc := 66) (v := 0) dX3_readWord_66 (by decide) ?_
        refine xm_put21 (M := mX3_readWord) (pc := 67) hM hF q2856 dX3_readWord_67 (fun h hM hF => ?_)
        refine x_aload_n (M := mX3_readWord) (pc := 70) dX3_readWord_70 rfl ?_
        refine x_dup (M := mX3_readWord) (pc := 71) dX3_readWord_71 ?_
        refine x_get (M := mX3_readWord) (pc := 72) kcX3 18 rfl q2853 dX3_readWord_72 hM.1 rfl ?_
        refine x_val (M := mX3_readWord) (pc := 75) (upd_s I 18 (nI (p + k))) ?_
        refine x_iconst (M := mX3_readWord) (pc := 75) (v := nI 1) dX3_readWord_75 (by decide) ?_
        first | with_reducible refine x_iaddN (M := mX3_readWord) (pc := 76) dX3_readWord_76 ?_ | refine x_iadd (M := mX3_readWord) (pc := 76) dX3_readWord_76 ?_
        refine xm_put18 (M := mX3_readWord) (pc := 77) hM hF q2853 dX3_readWord_77 (fun h hM hF => ?_)
        first | refine x_iinc1N (M := mX3_readWord) (pc := 80) (c := 1) dX3_readWord_80 oI1 ?_ | refine x_iinc1 (M := mX3_readWord) (pc := 80) (c := 1) dX3_readWord_80 (by decide) ?_
        refine x_goto (M := mX3_readWord) (pc := 83) 7 dX3_readWord_83 (by decide) ?_
        rw [fstN, if_neg (by rw [c30]; decide)] at he; refine ih (k + 1) (by omega) he h ?_ hF; rw [upd_upd] at hM; first | (rw [t_wd, if_pos (by omega)]; exact hM) | (rw [t_wd, if_neg (by omega)]; exact hM)
      · refine x_ldc2 (M := mX3_readWord) (pc := 40) dX3_readWord_40 q3119 ?_
        refine x_aload_n (M := mX3_readWord) (pc := 43) dX3_readWord_43 rfl ?_
        refine x_get (M := mX3_readWord) (pc := 44) kcX3 21 rfl q2856 dX3_readWord_44 hM.1 rfl ?_
        refine x_lmul (M := mX3_readWord) (pc := 47) dX3_readWord_47 ?_
        refine x_aload_n (M := mX3_readWord) (pc := 48) dX3_readWord_48 rfl ?_
        refine x_get (M := mX3_readWord) (pc := 49) kcX3 5 rfl q2840 dX3_readWord_49 hM.1 rfl ?_
        refine x_aload_n (M := mX3_readWord) (pc := 52) dX3_readWord_52 rfl ?_
        refine x_get (M := mX3_readWord) (pc := 53) kcX3 18 rfl q2853 dX3_readWord_53 hM.1 rfl ?_
        refine x_val (M := mX3_readWord) (pc := 56) (upd_s I 18 (nI (p + k))) ?_
        refine xm_ialdV (M := mX3_readWord) (pc := 56) hM dX3_readWord_56 (h5 (p + k) (by omega)) (by decide) (by first | decide | (simp only [mSz] <;> omega)) ?_
        refine x_i2l (M := mX3_readWord) (pc := 57) dX3_readWord_57 ?_
        refine x_ladd (M := mX3_readWord) (pc := 58) dX3_readWord_58 ?_
        refine x_ldc2 (M := mX3_readWord) (pc := 59) dX3_readWord_59 q3120 ?_
        refine x_lsub (M := mX3_readWord) (pc := 62) dX3_readWord_62 ?_
        refine x_goto (M := mX3_readWord) (pc := 63) 67 dX3_readWord_63 (by decide) ?_
        refine xm_put21 (M := mX3_readWord) (pc := 67) hM hF q2856 dX3_readWord_67 (fun h hM hF => ?_)
        refine x_aload_n (M := mX3_readWord) (pc := 70) dX3_readWord_70 rfl ?_
        refine x_dup (M := mX3_readWord) (pc := 71) dX3_readWord_71 ?_
        refine x_get (M := mX3_readWord) (pc := 72) kcX3 18 rfl q2853 dX3_readWord_72 hM.1 rfl ?_
        refine x_val (M := mX3_readWord) (pc := 75) (upd_s I 18 (nI (p + k))) ?_
        refine x_iconst (M := mX3_readWord) (pc := 75) (v := nI 1) dX3_readWord_75 (by decide) ?_
        first | with_reducible refine x_iaddN (M := mX3_readWord) (pc := 76) dX3_readWord_76 ?_ | refine x_iadd (M := mX3_readWord) (pc := 76) dX3_readWord_76 ?_
        refine xm_put18 (M := mX3_readWord) (pc := 77) hM hF q2853 dX3_readWord_77 (fun h hM hF => ?_)
        first | refine x_iinc1N (M := mX3_readWord) (pc := 80) (c := 1) dX3_readWord_80 oI1 ?_ | refine x_iinc1 (M := mX3_readWord) (pc := 80) (c := 1) dX3_readWord_80 (by decide) ?_
        refine x_goto (M := mX3_readWord) (pc := 83) 7 dX3_readWord_83 (by decide) ?_
        rw [fstN, if_neg (by rw [c30]; decide)] at he; refine ih (k + 1) (by omega) he h ?_ hF; rw [upd_upd] at hM; first | (rw [t_wd, if_pos (by omega)]; exact hM) | (rw [t_wd, if_neg (by omega)]; exact hM)
theorem m_readWord (d len p : Nat) (tx : Nat → Nat) (hd : 2 ≤ d) (hT : TX I B len tx) (hp : I 18 = nI p) (hpl : p ≤ len) : MC g l mX3_readWord d [] m A I B wd (fun v I' B' wd' => v = none ∧ I' = upd (upd I 18 (nI (t_end isL tx len p))) 20 1 ∧ B' = B ∧ wd' = t_wd tx p (t_end isL tx len p - p)) := by
  intro h hM
  have hF : MF m A h h := MF.rf
  refine Ct.of [some (.ref m), none] (by decide +kernel) rfl (Nat.le_of_ble_eq_true rfl) rfl rfl ?_
  refine x_aload_n (M := mX3_readWord) (pc := 0) dX3_readWord_0 rfl ?_
  refine x_lconst (M := mX3_readWord) (pc := 1) (v := 0) dX3_readWord_1 (by decide) ?_
  refine xm_put21 (M := mX3_readWord) (pc := 2) hM hF q2856 dX3_readWord_2 (fun h hM hF => ?_)
  refine x_iconst (M := mX3_readWord) (pc := 5) (v := nI 0) dX3_readWord_5 (by decide) ?_
  refine x_istore1 (M := mX3_readWord) (pc := 6) dX3_readWord_6 ?_
  have hI : upd I 18 (nI (p + 0)) = I := upd_id hp
  refine m_readWord_l d len p tx hd hT _ _ (fun h hM hF a1 => ?_) (len - p) 0 (by omega) rfl h (by rw [hI]; exact hM) hF
  refine x_aload_n (M := mX3_readWord) (pc := 86) dX3_readWord_86 rfl ?_
  refine x_iconst (M := mX3_readWord) (pc := 87) (v := nI 1) dX3_readWord_87 (by decide) ?_
  refine xm_put20 (M := mX3_readWord) (pc := 88) hM hF q2855 dX3_readWord_88 (fun h hM hF => ?_)
  refine x_vret (M := mX3_readWord) (pc := 91) dX3_readWord_91 rfl (Nat.le_refl 0) (Nat.le_refl 0) ⟨_, _, _, _, rfl, ?_, hM, hF⟩
  exact ⟨rfl, rfl, rfl, rfl⟩
theorem m_readNumber_l (d len p : Nat) (tx : Nat → Nat) (hd : 2 ≤ d) (hT : TX I B len tx) (h0 : xH) (Q : xO → xH → Prop)
    (hE : ∀ h, MR g h m A (upd (upd I 18 (nI (t_end isF tx len p))) 22 (nI (t_nm tx p (t_end isF tx len p - p)))) B wd → MF m A h0 h → ∀ a2, X g l mX3_readNumber d 0 0 Q 85 [some (.ref m), some (.int (nI (t_end isF tx len p - p))), a2] [] h 0 0) :
    ∀ q k, p + k + q = len → t_end isF tx len p = fstN (fun k => !isF (tx k)) q (p + k) → (∀ i, i < k → isF (tx (p + i)) = true) → ∀ h a2, MR g h m A (upd (upd I 18 (nI (p + k))) 22 (nI (t_nm tx p k))) B wd → MF m A h0 h → X g l mX3_readNumber d 0 0 Q 7 [some (.ref m), some (.int (nI k)), a2] [] h 0 0 := by
  obtain ⟨h4, hlen, h5, htx⟩ := hT
  have e4 : ∀ x y, upd (upd I 18 x) 22 y 4 = nI len := fun x y => (upd_n _ _ (by decide)).trans ((upd_n I x (by decide)).trans h4)
  have e18 : ∀ x y, upd (upd I 18 x) 22 y 18 = x := fun x y => (upd_n _ _ (by decide)).trans (upd_s I _ x)
  have e22 : ∀ (J : Nat → Int32) y, upd J 22 y 22 = y := fun J y => upd_s _ _ _
  have hF9 : ∀ k, (∀ i, i < k → isF (tx (p + i)) = true) → t_nm tx p k < 10 ^ min k 4 := fun k => by
    induction k with
    | zero => intro _; show 0 < 1; omega
    | succ k ih =>
      intro hi
      have := ih (fun i h => hi i (by omega))
      have hk := of_decide_eq_true (hi k (by omega))
      unfold t_nm
      by_cases h4 : k < 4
      · rw [if_pos h4, show min (k + 1) 4 = k + 1 by omega, Nat.pow_succ]
        rw [show min k 4 = k by omega] at this
        omega
      · rw [if_neg h4, show min (k + 1) 4 = min k 4 by omega]; exact this
  intro q
  induction q with
  | zero =>
    intro k hk he hall h a2 hM hF
    rw [fstN] at he
    refine x_aload_n (M := mX3_readNumber) (pc := 7) dX3_readNumber_7 rfl ?_
    refine x_get (M := mX3_readNumber) (pc := 8) kcX3 18 rfl q2853 dX3_readNumber_8 hM.1 rfl ?_
    refine x_val (M := mX3_readNumber) (pc := 11) (e18 _ _) ?_
    refine x_aload_n (M := mX3_readNumber) (pc := 11) dX3_readNumber_11 rfl ?_
    refine x_get (M := mX3_readNumber) (pc := 12) kcX3 4 rfl q2839 dX3_readNumber_12 hM.1 rfl ?_
    refine x_val (M := mX3_readNumber) (pc := 15) (e4 _ _) ?_
    first | with_reducible refine x_icmp_geN (M := mX3_readNumber) (pc := 15) 85 dX3_readNumber_15 (by decide) (by omega) (by omega) (fun c1 => ?_) (fun c1 => ?_) | refine x_icmp_ge (M := mX3_readNumber) (pc := 15) 85 dX3_readNumber_15 (by decide) (fun c1 => ?_) (fun c1 => ?_)
    · rw [he, show p + k - p = k by omega] at hE; exact hE h hM hF _
    · omega
  | succ q ih =>
    intro k hk he hall h a2 hM hF
    have ht := htx (p + k)
    have hnm := Nat.lt_of_lt_of_le (hF9 k hall) (Nat.pow_le_pow_right (by omega : 10 > 0) (Nat.min_le_right k 4))
    refine x_aload_n (M := mX3_readNumber) (pc := 7) dX3_readNumber_7 rfl ?_
    refine x_get (M := mX3_readNumber) (pc := 8) kcX3 18 rfl q2853 dX3_readNumber_8 hM.1 rfl ?_
    refine x_val (M := mX3_readNumber) (pc := 11) (e18 _ _) ?_
    refine x_aload_n (M := mX3_readNumber) (pc := 11) dX3_readNumber_11 rfl ?_
    refine x_get (M := mX3_readNumber) (pc := 12) kcX3 4 rfl q2839 dX3_readNumber_12 hM.1 rfl ?_
    refine x_val (M := mX3_readNumber) (pc := 15) (e4 _ _) ?_
    first | with_reducible refine x_icmp_geN (M := mX3_readNumber) (pc := 15) 85 dX3_readNumber_15 (by decide) (by omega) (by omega) (fun c1 => ?_) (fun c1 => ?_) | refine x_icmp_ge (M := mX3_readNumber) (pc := 15) 85 dX3_readNumber_15 (by decide) (fun c1 => ?_) (fun c1 => ?_)
    · omega
    refine x_aload_n (M := mX3_readNumber) (pc := 18) dX3_readNumber_18 rfl ?_
    refine x_get (M := mX3_readNumber) (pc := 19) kcX3 5 rfl q2840 dX3_readNumber_19 hM.1 rfl ?_
    refine x_aload_n (M := mX3_readNumber) (pc := 22) dX3_readNumber_22 rfl ?_
    refine x_get (M := mX3_readNumber) (pc := 23) kcX3 18 rfl q2853 dX3_readNumber_23 hM.1 rfl ?_
    refine x_val (M := mX3_readNumber) (pc := 26) (e18 _ _) ?_
    refine xm_ialdV (M := mX3_readNumber) (pc := 26) hM dX3_readNumber_26 (h5 (p + k) (by omega)) (by decide) (by first | decide | (simp only [mSz] <;> omega)) ?_
    refine x_S1 (M := mX3_readNumber) (pc := 27) (M' := mX3_isFigure) q3121 kSX3_isFigure dX3_readNumber_27 (m_isFigure h (tx (p + k)) (d - 1) (by omega) (by omega)) (fun v_ h hq_ => ?_)
    obtain ⟨hv_, rfl⟩ := hq_; cases hv_
    first | with_reducible refine x_ifB_eq (M := mX3_readNumber) (pc := 30) 85 dX3_readNumber_30 (by decide) (fun c30 => ?_) (fun c30 => ?_) | with_reducible refine x_if_eqN (M := mX3_readNumber) (pc := 30) 85 dX3_readNumber_30 (by decide) (by omega) (fun c30 => ?_) (fun c30 => ?_) | refine x_if_eq (M := mX3_readNumber) (pc := 30) 85 dX3_readNumber_30 (by decide) (fun c30 => ?_) (fun c30 => ?_)
    · rw [fstN, if_pos (by rw [c30]; rfl)] at he; rw [he, show p + k - p = k by omega] at hE; exact hE h hM hF _
    · have hfg := of_decide_eq_true c30
      refine x_aload_n (M := mX3_readNumber) (pc := 33) dX3_readNumber_33 rfl ?_
      refine x_iload_n (M := mX3_readNumber) (pc := 34) dX3_readNumber_34 rfl ?_
      refine x_iconst (M := mX3_readNumber) (pc := 35) (v := nI 4) dX3_readNumber_35 (by decide) ?_
      first | with_reducible refine x_icmp_geN (M := mX3_readNumber) (pc := 36) 62 dX3_readNumber_36 (by decide) (by omega) (by omega) (fun c36 => ?_) (fun c36 => ?_) | refine x_icmp_ge (M := mX3_readNumber) (pc := 36) 62 dX3_readNumber_36 (by decide) (fun c36 => ?_) (fun c36 => ?_)
      · refine x_aload_n (M := mX3_readNumber) (pc := 62) dX3_readNumber_62 rfl ?_
        refine x_get (M := mX3_readNumber) (pc := 63) kcX3 22 rfl q2857 dX3_readNumber_63 hM.1 rfl ?_
        refine x_val (M := mX3_readNumber) (pc := 66) (e22 _ _) ?_
        refine xm_put22 (M := mX3_readNumber) (pc := 66) hM hF q2857 dX3_readNumber_66 (fun h hM hF => ?_)
        first | refine x_iinc1N (M := mX3_readNumber) (pc := 69) (c := 1) dX3_readNumber_69 oI1 ?_ | refine x_iinc1 (M := mX3_readNumber) (pc := 69) (c := 1) dX3_readNumber_69 (by decide) ?_
        refine x_aload_n (M := mX3_readNumber) (pc := 72) dX3_readNumber_72 rfl ?_
        refine x_dup (M := mX3_readNumber) (pc := 73) dX3_readNumber_73 ?_
        refine x_get (M := mX3_readNumber) (pc := 74) kcX3 18 rfl q2853 dX3_readNumber_74 hM.1 rfl ?_
        refine x_val (M := mX3_readNumber) (pc := 77) ((show upd (upd (upd I 18 (nI (p + k))) 22 (nI (t_nm tx p k))) 22 _ 18 = nI (p + k) from (upd_n _ _ (by decide)).trans (e18 _ _))) ?_
        refine x_iconst (M := mX3_readNumber) (pc := 77) (v := nI 1) dX3_readNumber_77 (by decide) ?_
        first | with_reducible refine x_iaddN (M := mX3_readNumber) (pc := 78) dX3_readNumber_78 ?_ | refine x_iadd (M := mX3_readNumber) (pc := 78) dX3_readNumber_78 ?_
        refine xm_put18 (M := mX3_readNumber) (pc := 79) hM hF q2853 dX3_readNumber_79 (fun h hM hF => ?_)
        refine x_goto (M := mX3_readNumber) (pc := 82) 7 dX3_readNumber_82 (by decide) ?_
        rw [fstN, if_neg (by rw [c30]; decide)] at he; refine ih (k + 1) (by omega) he (fun i hi => ?_) h _ ?_ hF; (by_cases e : i = k; (rw [e]; exact c30); exact hall i (by omega)); rw [upd_4 _ (by decide)] at hM; first | (rw [t_nm, if_pos (by omega)]; exact hM) | (rw [t_nm, if_neg (by omega)]; exact hM)
      · refine x_bipush (M := mX3_readNumber) (pc := 39) (v := nI 10) dX3_readNumber_39 (by decide) ?_
        refine x_aload_n (M := mX3_readNumber) (pc := 41) dX3_readNumber_41 rfl ?_
        refine x_get (M := mX3_readNumber) (pc := 42) kcX3 22 rfl q2857 dX3_readNumber_42 hM.1 rfl ?_
        refine x_val (M := mX3_readNumber) (pc := 45) (e22 _ _) ?_
        first | with_reducible refine x_imulN (M := mX3_readNumber) (pc := 45) dX3_readNumber_45 ?_ | refine x_imul (M := mX3_readNumber) (pc := 45) dX3_readNumber_45 ?_
        refine x_aload_n (M := mX3_readNumber) (pc := 46) dX3_readNumber_46 rfl ?_
        refine x_get (M := mX3_readNumber) (pc := 47) kcX3 5 rfl q2840 dX3_readNumber_47 hM.1 rfl ?_
        refine x_aload_n (M := mX3_readNumber) (pc := 50) dX3_readNumber_50 rfl ?_
        refine x_get (M := mX3_readNumber) (pc := 51) kcX3 18 rfl q2853 dX3_readNumber_51 hM.1 rfl ?_
        refine x_val (M := mX3_readNumber) (pc := 54) (e18 _ _) ?_
        refine xm_ialdV (M := mX3_readNumber) (pc := 54) hM dX3_readNumber_54 (h5 (p + k) (by omega)) (by decide) (by first | decide | (simp only [mSz] <;> omega)) ?_
        first | with_reducible refine x_iaddN (M := mX3_readNumber) (pc := 55) dX3_readNumber_55 ?_ | refine x_iadd (M := mX3_readNumber) (pc := 55) dX3_readNumber_55 ?_
        refine x_bipush (M := mX3_readNumber) (pc := 56) (v := nI 48) dX3_readNumber_56 (by decide) ?_
        first | with_reducible refine x_isubN (M := mX3_readNumber) (pc := 58) dX3_readNumber_58 (by omega) ?_ | refine x_isub (M := mX3_readNumber) (pc := 58) dX3_readNumber_58 ?_
        refine x_goto (M := mX3_readNumber) (pc := 59) 66 dX3_readNumber_59 (by decide) ?_
        refine xm_put22 (M := mX3_readNumber) (pc := 66) hM hF q2857 dX3_readNumber_66 (fun h hM hF => ?_)
        first | refine x_iinc1N (M := mX3_readNumber) (pc := 69) (c := 1) dX3_readNumber_69 oI1 ?_ | refine x_iinc1 (M := mX3_readNumber) (pc := 69) (c := 1) dX3_readNumber_69 (by decide) ?_
        refine x_aload_n (M := mX3_readNumber) (pc := 72) dX3_readNumber_72 rfl ?_
        refine x_dup (M := mX3_readNumber) (pc := 73) dX3_readNumber_73 ?_
        refine x_get (M := mX3_readNumber) (pc := 74) kcX3 18 rfl q2853 dX3_readNumber_74 hM.1 rfl ?_
        refine x_val (M := mX3_readNumber) (pc := 77) ((show upd (upd (upd I 18 (nI (p + k))) 22 (nI (t_nm tx p k))) 22 _ 18 = nI (p + k) from (upd_n _ _ (by decide)).trans (e18 _ _))) ?_
        refine x_iconst (M := mX3_readNumber) (pc := 77) (v := nI 1) dX3_readNumber_77 (by decide) ?_
        first | with_reducible refine x_iaddN (M := mX3_readNumber) (pc := 78) dX3_readNumber_78 ?_ | refine x_iadd (M := mX3_readNumber) (pc := 78) dX3_readNumber_78 ?_
        refine xm_put18 (M := mX3_readNumber) (pc := 79) hM hF q2853 dX3_readNumber_79 (fun h hM hF => ?_)
        refine x_goto (M := mX3_readNumber) (pc := 82) 7 dX3_readNumber_82 (by decide) ?_
        rw [fstN, if_neg (by rw [c30]; decide)] at he; refine ih (k + 1) (by omega) he (fun i hi => ?_) h _ ?_ hF; (by_cases e : i = k; (rw [e]; exact c30); exact hall i (by omega)); rw [upd_4 _ (by decide)] at hM; first | (rw [t_nm, if_pos (by omega)]; exact hM) | (rw [t_nm, if_neg (by omega)]; exact hM)
def t_kn (tx : Nat → Nat) (p n : Nat) : Bool := decide (n < 5 ∧ (n = 1 ∨ tx p ≠ 48))
theorem m_readNumber (d len p : Nat) (tx : Nat → Nat) (hd : 2 ≤ d) (hT : TX I B len tx) (hp : I 18 = nI p) (hb : I 19 = nI p) (hpl : p < len) : MC g l mX3_readNumber d [] m A I B wd (fun v I' B' wd' => v = none ∧ I' = upd (upd (upd I 18 (nI (t_end isF tx len p))) 22 (nI (t_nm tx p (t_end isF tx len p - p)))) 20 (if t_kn tx p (t_end isF tx len p - p) then 2 else 4) ∧ B' = B ∧ wd' = wd) := by
  intro h hM
  have hF : MF m A h h := MF.rf
  have hle := fstN_le (fun k => !isF (tx k)) (len - p) p
  have hlen := hT.2.1
  have ht := hT.2.2.2 p
  have hen : t_end isF tx len p ≤ len := by unfold t_end; omega
  refine Ct.of [some (.ref m), none, none] (by decide +kernel) rfl (Nat.le_of_ble_eq_true rfl) rfl rfl ?_
  refine x_iconst (M := mX3_readNumber) (pc := 0) (v := nI 0) dX3_readNumber_0 (by decide) ?_
  refine x_istore1 (M := mX3_readNumber) (pc := 1) dX3_readNumber_1 ?_
  refine x_aload_n (M := mX3_readNumber) (pc := 2) dX3_readNumber_2 rfl ?_
  refine x_iconst (M := mX3_readNumber) (pc := 3) (v := nI 0) dX3_readNumber_3 (by decide) ?_
  refine xm_put22 (M := mX3_readNumber) (pc := 4) hM hF q2857 dX3_readNumber_4 (fun h hM hF => ?_)
  have hI : upd I 18 (nI (p + 0)) = I := upd_id hp
  refine m_readNumber_l d len p tx hd hT _ _ (fun h hM hF a2 => ?_) (len - p) 0 (by omega) rfl (fun i hi => absurd hi (Nat.not_lt_zero _)) h _ (by rw [hI]; exact hM) hF
  have hst : upd (upd I 18 (nI (t_end isF tx len p))) 22 (nI (t_nm tx p (t_end isF tx len p - p))) 19 = nI p := (upd_n _ _ (by decide)).trans ((upd_n _ _ (by decide)).trans hb)
  refine x_joinB 114 (t_kn tx p (t_end isF tx len p - p)) (fun J => ?_) ?_
  · refine x_iload_n (M := mX3_readNumber) (pc := 85) dX3_readNumber_85 rfl ?_
    refine x_iconst (M := mX3_readNumber) (pc := 86) (v := nI 5) dX3_readNumber_86 (by decide) ?_
    first | with_reducible refine x_icmp_geN (M := mX3_readNumber) (pc := 87) 113 dX3_readNumber_87 (by decide) (by omega) (by omega) (fun c87 => ?_) (fun c87 => ?_) | refine x_icmp_ge (M := mX3_readNumber) (pc := 87) 113 dX3_readNumber_87 (by decide) (fun c87 => ?_) (fun c87 => ?_)
    · refine x_iconst (M := mX3_readNumber) (pc := 113) (v := nI 0) dX3_readNumber_113 (by decide) ?_
      first | exact J true (by rw [t_kn, decide_eq_true]; omega) | exact J false (by rw [t_kn, decide_eq_false]; omega)
    · refine x_iload_n (M := mX3_readNumber) (pc := 90) dX3_readNumber_90 rfl ?_
      refine x_iconst (M := mX3_readNumber) (pc := 91) (v := nI 1) dX3_readNumber_91 (by decide) ?_
      first | with_reducible refine x_icmp_eqN (M := mX3_readNumber) (pc := 92) 109 dX3_readNumber_92 (by decide) (by omega) (by omega) (fun c92 => ?_) (fun c92 => ?_) | refine x_icmp_eq (M := mX3_readNumber) (pc := 92) 109 dX3_readNumber_92 (by decide) (fun c92 => ?_) (fun c92 => ?_)
      · refine x_iconst (M := mX3_readNumber) (pc := 109) (v := nI 1) dX3_readNumber_109 (by decide) ?_
        refine x_goto (M := mX3_readNumber) (pc := 110) 114 dX3_readNumber_110 (by decide) ?_
        first | exact J true (by rw [t_kn, decide_eq_true]; omega) | exact J false (by rw [t_kn, decide_eq_false]; omega)
      · refine x_aload_n (M := mX3_readNumber) (pc := 95) dX3_readNumber_95 rfl ?_
        refine x_get (M := mX3_readNumber) (pc := 96) kcX3 5 rfl q2840 dX3_readNumber_96 hM.1 rfl ?_
        refine x_aload_n (M := mX3_readNumber) (pc := 99) dX3_readNumber_99 rfl ?_
        refine x_get (M := mX3_readNumber) (pc := 100) kcX3 19 rfl q2854 dX3_readNumber_100 hM.1 rfl ?_
        refine x_val (M := mX3_readNumber) (pc := 103) (hst) ?_
        refine xm_ialdV (M := mX3_readNumber) (pc := 103) hM dX3_readNumber_103 (hT.2.2.1 p hpl) (by decide) (by first | decide | (simp only [mSz] <;> omega)) ?_
        refine x_bipush (M := mX3_readNumber) (pc := 104) (v := nI 48) dX3_readNumber_104 (by decide) ?_
        first | with_reducible refine x_icmp_eqN (M := mX3_readNumber) (pc := 106) 113 dX3_readNumber_106 (by decide) (by omega) (by omega) (fun c106 => ?_) (fun c106 => ?_) | refine x_icmp_eq (M := mX3_readNumber) (pc := 106) 113 dX3_readNumber_106 (by decide) (fun c106 => ?_) (fun c106 => ?_)
        · refine x_iconst (M := mX3_readNumber) (pc := 113) (v := nI 0) dX3_readNumber_113 (by decide) ?_
          first | exact J true (by rw [t_kn, decide_eq_true]; omega) | exact J false (by rw [t_kn, decide_eq_false]; omega)
        · refine x_iconst (M := mX3_readNumber) (pc := 109) (v := nI 1) dX3_readNumber_109 (by decide) ?_
          refine x_goto (M := mX3_readNumber) (pc := 110) 114 dX3_readNumber_110 (by decide) ?_
          first | exact J true (by rw [t_kn, decide_eq_true]; omega) | exact J false (by rw [t_kn, decide_eq_false]; omega)
  refine x_istore2 (M := mX3_readNumber) (pc := 114) dX3_readNumber_114 ?_
  refine x_aload_n (M := mX3_readNumber) (pc := 115) dX3_readNumber_115 rfl ?_
  refine x_iload_n (M := mX3_readNumber) (pc := 116) dX3_readNumber_116 rfl ?_
  first | with_reducible refine x_ifB_eq (M := mX3_readNumber) (pc := 117) 124 dX3_readNumber_117 (by decide) (fun c117 => ?_) (fun c117 => ?_) | with_reducible refine x_if_eqN (M := mX3_readNumber) (pc := 117) 124 dX3_readNumber_117 (by decide) (by omega) (fun c117 => ?_) (fun c117 => ?_) | refine x_if_eq (M := mX3_readNumber) (pc := 117) 124 dX3_readNumber_117 (by decide) (fun c117 => ?_) (fun c117 => ?_)
  · refine x_iconst (M := mX3_readNumber) (pc := 124) (v := nI 4) dX3_readNumber_124 (by decide) ?_
    refine xm_put20 (M := mX3_readNumber) (pc := 125) hM hF q2855 dX3_readNumber_125 (fun h hM hF => ?_)
    refine x_vret (M := mX3_readNumber) (pc := 128) dX3_readNumber_128 rfl (Nat.le_refl 0) (Nat.le_refl 0) ⟨_, _, _, _, rfl, ?_, hM, hF⟩
    exact ⟨rfl, by rw [c117]; rfl, rfl, rfl⟩
  · refine x_iconst (M := mX3_readNumber) (pc := 120) (v := nI 2) dX3_readNumber_120 (by decide) ?_
    refine x_goto (M := mX3_readNumber) (pc := 121) 125 dX3_readNumber_121 (by decide) ?_
    refine xm_put20 (M := mX3_readNumber) (pc := 125) hM hF q2855 dX3_readNumber_125 (fun h hM hF => ?_)
    refine x_vret (M := mX3_readNumber) (pc := 128) dX3_readNumber_128 rfl (Nat.le_refl 0) (Nat.le_refl 0) ⟨_, _, _, _, rfl, ?_, hM, hF⟩
    exact ⟨rfl, by rw [c117]; rfl, rfl, rfl⟩
end MODELO

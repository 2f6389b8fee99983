section MODELP
set_option maxRecDepth 100000
def isS (c : Nat) : Bool := decide (c = 32)
def t_b (tx : Nat → Nat) (len p : Nat) : Nat := t_end isS tx len p
def t_kd (tx : Nat → Nat) (len p : Nat) : Nat := if t_b tx len p = len then 0 else if isL (tx (t_b tx len p)) then 1 else if isF (tx (t_b tx len p)) then (if t_kn tx (t_b tx len p) (t_end isF tx len (t_b tx len p) - t_b tx len p) then 2 else 4) else if tx (t_b tx len p) = 59 then 3 else 4
def t_sp (tx : Nat → Nat) (len p : Nat) : Nat := if t_b tx len p = len then t_b tx len p else if isL (tx (t_b tx len p)) then t_end isL tx len (t_b tx len p) else if isF (tx (t_b tx len p)) then t_end isF tx len (t_b tx len p) else t_b tx len p + 1
def t_wo (tx : Nat → Nat) (len p : Nat) : Int64 := if t_b tx len p = len then 0 else if isL (tx (t_b tx len p)) then t_wd tx (t_b tx len p) (t_end isL tx len (t_b tx len p) - t_b tx len p) else 0
def t_nu (tx : Nat → Nat) (len p : Nat) : Nat := t_nm tx (t_b tx len p) (t_end isF tx len (t_b tx len p) - t_b tx len p)
variable {g : xG} {l : Launch} {m : Nat} {A : Nat → Nat} {I : Nat → Int32} {B : Nat → Nat → Int32} {wd : Int64}
/-- what `next` leaves -/
def NX (I : Nat → Int32) (B : Nat → Nat → Int32) (tx : Nat → Nat) (len p : Nat) : Option Value → (Nat → Int32) → (Nat → Nat → Int32) → Int64 → Prop := fun v I' B' wd' =>
  v = none ∧ B' = B ∧ (∀ j, j ≠ 18 → j ≠ 19 → j ≠ 20 → j ≠ 22 → I' j = I j) ∧ I' 18 = nI (t_sp tx len p) ∧ I' 20 = nI (t_kd tx len p) ∧ wd' = t_wo tx len p ∧ (t_kd tx len p = 2 → I' 22 = nI (t_nu tx len p)) ∧ I' 19 = nI (t_b tx len p)
theorem m_next_l (d len p : Nat) (tx : Nat → Nat) (hT : TX I B len tx) (h0 : xH) (Q : xO → xH → Prop)
    (hE : ∀ h, MR g h m A (upd I 18 (nI (t_b tx len p))) B wd → MF m A h0 h → X g l mX3_next d 0 0 Q 38 [some (.ref m)] [] h 0 0) :
    ∀ q k, k + q = len → t_b tx len p = fstN (fun k => !isS (tx k)) q k → ∀ h, MR g h m A (upd I 18 (nI k)) B wd → MF m A h0 h → X g l mX3_next d 0 0 Q 0 [some (.ref m)] [] h 0 0 := by
  obtain ⟨h4, hlen, h5, htx⟩ := hT
  have e4 : ∀ x, upd I 18 x 4 = nI len := fun x => (upd_n I x (by decide)).trans h4
  intro q
  induction q with
  | zero =>
    intro k hk he h hM hF
    rw [fstN] at he
    refine x_aload_n (M := mX3_next) (pc := 0) dX3_next_0 rfl ?_
    refine x_get (M := mX3_next) (pc := 1) kcX3 18 rfl q2853 dX3_next_1 hM.1 rfl ?_
    refine x_val (M := mX3_next) (pc := 4) (upd_s I 18 (nI k)) ?_
    refine x_aload_n (M := mX3_next) (pc := 4) dX3_next_4 rfl ?_
    refine x_get (M := mX3_next) (pc := 5) kcX3 4 rfl q2839 dX3_next_5 hM.1 rfl ?_
    refine x_val (M := mX3_next) (pc := 8) (e4 _) ?_
    first | with_reducible refine x_icmp_geN (M := mX3_next) (pc := 8) 38 dX3_next_8 (by decide) (by omega) (by omega) (fun c1 => ?_) (fun c1 => ?_) | refine x_icmp_ge (M := mX3_next) (pc := 8) 38 dX3_next_8 (by decide) (fun c1 => ?_) (fun c1 => ?_)
    · rw [he] at hE; exact hE h hM hF
    · omega
  | succ q ih =>
    intro k hk he h hM hF
    have ht := htx k
    refine x_aload_n (M := mX3_next) (pc := 0) dX3_next_0 rfl ?_
    refine x_get (M := mX3_next) (pc := 1) kcX3 18 rfl q2853 dX3_next_1 hM.1 rfl ?_
    refine x_val (M := mX3_next) (pc := 4) (upd_s I 18 (nI k)) ?_
    refine x_aload_n (M := mX3_next) (pc := 4) dX3_next_4 rfl ?_
    refine x_get (M := mX3_next) (pc := 5) kcX3 4 rfl q2839 dX3_next_5 hM.1 rfl ?_
    refine x_val (M := mX3_next) (pc := 8) (e4 _) ?_
    first | with_reducible refine x_icmp_geN (M := mX3_next) (pc := 8) 38 dX3_next_8 (by decide) (by omega) (by omega) (fun c1 => ?_) (fun c1 => ?_) | refine x_icmp_ge (M := mX3_next) (pc := 8) 38 dX3_next_8 (by decide) (fun c1 => ?_) (fun c1 => ?_)
    · omega
    refine x_aload_n (M := mX3_next) (pc := 11) dX3_next_11 rfl ?_
    refine x_get (M := mX3_next) (pc := 12) kcX3 5 rfl q2840 dX3_next_12 hM.1 rfl ?_
    refine x_aload_n (M := mX3_next) (pc := 15) dX3_next_15 rfl ?_
    refine x_get (M := mX3_next) (pc := 16) kcX3 18 rfl q2853 dX3_next_16 hM.1 rfl ?_
    refine x_val (M := mX3_next) (pc := 19) (upd_s I 18 (nI k)) ?_
    refine xm_ialdV (M := mX3_next) (pc := 19) hM dX3_next_19 (h5 k (by omega)) (by decide) (by first | decide | (simp only [mSz] <;> omega)) ?_
    refine x_bipush (M := mX3_next) (pc := 20) (v := nI 32) dX3_next_20 (by decide) ?_
    first | with_reducible refine x_icmp_neN (M := mX3_next) (pc := 22) 38 dX3_next_22 (by decide) (by omega) (by omega) (fun c22 => ?_) (fun c22 => ?_) | refine x_icmp_ne (M := mX3_next) (pc := 22) 38 dX3_next_22 (by decide) (fun c22 => ?_) (fun c22 => ?_)
    · rw [fstN, if_pos (by rw [isS, decide_eq_false c22]; rfl)] at he; rw [he] at hE; exact hE h hM hF
    · refine x_aload_n (M := mX3_next) (pc := 25) dX3_next_25 rfl ?_
      refine x_dup (M := mX3_next) (pc := 26) dX3_next_26 ?_
      refine x_get (M := mX3_next) (pc := 27) kcX3 18 rfl q2853 dX3_next_27 hM.1 rfl ?_
      refine x_val (M := mX3_next) (pc := 30) (upd_s I 18 (nI k)) ?_
      refine x_iconst (M := mX3_next) (pc := 30) (v := nI 1) dX3_next_30 (by decide) ?_
      first | with_reducible refine x_iaddN (M := mX3_next) (pc := 31) dX3_next_31 ?_ | refine x_iadd (M := mX3_next) (pc := 31) dX3_next_31 ?_
      refine xm_put18 (M := mX3_next) (pc := 32) hM hF q2853 dX3_next_32 (fun h hM hF => ?_)
      refine x_goto (M := mX3_next) (pc := 35) 0 dX3_next_35 (by decide) ?_
      rw [fstN, if_neg (by rw [isS, decide_eq_true c22]; decide)] at he; refine ih (k + 1) (by omega) he h ?_ hF; rw [upd_upd] at hM; exact hM
theorem m_next (d len p : Nat) (tx : Nat → Nat) (hd : 3 ≤ d) (hT : TX I B len tx) (hp : I 18 = nI p) (hpl : p ≤ len) : MC g l mX3_next d [] m A I B wd (NX I B tx len p) := by
  intro h hM
  have hF : MF m A h h := MF.rf
  have hle := fstN_le (fun k => !isS (tx k)) (len - p) p
  have hbl : t_b tx len p ≤ len := by unfold t_b t_end; omega
  have hlen := hT.2.1
  have ht := hT.2.2.2 (t_b tx len p)
  refine Ct.of [some (.ref m)] (by decide +kernel) rfl (Nat.le_of_ble_eq_true rfl) rfl rfl ?_
  refine m_next_l d len p tx hT _ _ (fun h hM hF => ?_) (len - p) p (by omega) rfl h (by rw [upd_id hp]; exact hM) hF
  have e4 : ∀ x y, upd (upd I 18 x) 19 y 4 = nI len := fun x y => (upd_n _ _ (by decide)).trans ((upd_n I x (by decide)).trans hT.1)
  have e18 : ∀ x y, upd (upd I 18 x) 19 y 18 = x := fun x y => (upd_n _ _ (by decide)).trans (upd_s I _ x)
  have hT' : TX (upd (upd I 18 (nI (t_b tx len p))) 19 (nI (t_b tx len p))) B len tx := ⟨e4 _ _, hT.2⟩
  have hst : ∀ (J : Nat → Int32) (a b : Int32), (∀ j, j ≠ 18 → j ≠ 20 → j ≠ 22 → J j = upd (upd I 18 a) 19 b j) → ∀ j, j ≠ 18 → j ≠ 19 → j ≠ 20 → j ≠ 22 → J j = I j := fun J a b hJ j j1 j2 j3 j4 => by rw [hJ j j1 j3 j4, upd_n _ _ j2, upd_n _ _ j1]
  have e19 : ∀ (J : Nat → Int32) y, upd J 19 y 19 = y := fun J y => upd_s _ _ _
  refine x_aload_n (M := mX3_next) (pc := 38) dX3_next_38 rfl ?_
  refine x_aload_n (M := mX3_next) (pc := 39) dX3_next_39 rfl ?_
  refine x_get (M := mX3_next) (pc := 40) kcX3 18 rfl q2853 dX3_next_40 hM.1 rfl ?_
  refine x_val (M := mX3_next) (pc := 43) (upd_s I 18 (nI (t_b tx len p))) ?_
  refine xm_put19 (M := mX3_next) (pc := 43) hM hF q2854 dX3_next_43 (fun h hM hF => ?_)
  refine x_aload_n (M := mX3_next) (pc := 46) dX3_next_46 rfl ?_
  refine x_lconst (M := mX3_next) (pc := 47) (v := 0) dX3_next_47 (by decide) ?_
  refine xm_put21 (M := mX3_next) (pc := 48) hM hF q2856 dX3_next_48 (fun h hM hF => ?_)
  refine x_aload_n (M := mX3_next) (pc := 51) dX3_next_51 rfl ?_
  refine x_get (M := mX3_next) (pc := 52) kcX3 18 rfl q2853 dX3_next_52 hM.1 rfl ?_
  refine x_val (M := mX3_next) (pc := 55) (e18 _ _) ?_
  refine x_aload_n (M := mX3_next) (pc := 55) dX3_next_55 rfl ?_
  refine x_get (M := mX3_next) (pc := 56) kcX3 4 rfl q2839 dX3_next_56 hM.1 rfl ?_
  refine x_val (M := mX3_next) (pc := 59) (e4 _ _) ?_
  first | with_reducible refine x_icmp_neN (M := mX3_next) (pc := 59) 70 dX3_next_59 (by decide) (by omega) (by omega) (fun c59 => ?_) (fun c59 => ?_) | refine x_icmp_ne (M := mX3_next) (pc := 59) 70 dX3_next_59 (by decide) (fun c59 => ?_) (fun c59 => ?_)
  · refine x_aload_n (M := mX3_next) (pc := 70) dX3_next_70 rfl ?_
    refine x_get (M := mX3_next) (pc := 71) kcX3 5 rfl q2840 dX3_next_71 hM.1 rfl ?_
    refine x_aload_n (M := mX3_next) (pc := 74) dX3_next_74 rfl ?_
    refine x_get (M := mX3_next) (pc := 75) kcX3 18 rfl q2853 dX3_next_75 hM.1 rfl ?_
    refine x_val (M := mX3_next) (pc := 78) (e18 _ _) ?_
    refine xm_ialdV (M := mX3_next) (pc := 78) hM dX3_next_78 (hT.2.2.1 _ (by omega)) (by decide) (by first | decide | (simp only [mSz] <;> omega)) ?_
    refine x_S1 (M := mX3_next) (pc := 79) (M' := mX3_isLetter) q3110 kSX3_isLetter dX3_next_79 (m_isLetter h (tx (t_b tx len p)) (d - 1) (by omega) (by omega)) (fun v_ h hq_ => ?_)
    obtain ⟨hv_, rfl⟩ := hq_; cases hv_
    first | with_reducible refine x_ifB_eq (M := mX3_next) (pc := 82) 92 dX3_next_82 (by decide) (fun c82 => ?_) (fun c82 => ?_) | with_reducible refine x_if_eqN (M := mX3_next) (pc := 82) 92 dX3_next_82 (by decide) (by omega) (fun c82 => ?_) (fun c82 => ?_) | refine x_if_eq (M := mX3_next) (pc := 82) 92 dX3_next_82 (by decide) (fun c82 => ?_) (fun c82 => ?_)
    · refine x_aload_n (M := mX3_next) (pc := 92) dX3_next_92 rfl ?_
      refine x_get (M := mX3_next) (pc := 93) kcX3 5 rfl q2840 dX3_next_93 hM.1 rfl ?_
      refine x_aload_n (M := mX3_next) (pc := 96) dX3_next_96 rfl ?_
      refine x_get (M := mX3_next) (pc := 97) kcX3 18 rfl q2853 dX3_next_97 hM.1 rfl ?_
      refine x_val (M := mX3_next) (pc := 100) (e18 _ _) ?_
      refine xm_ialdV (M := mX3_next) (pc := 100) hM dX3_next_100 (hT.2.2.1 _ (by omega)) (by decide) (by first | decide | (simp only [mSz] <;> omega)) ?_
      refine x_S1 (M := mX3_next) (pc := 101) (M' := mX3_isFigure) q3121 kSX3_isFigure dX3_next_101 (m_isFigure h (tx (t_b tx len p)) (d - 1) (by omega) (by omega)) (fun v_ h hq_ => ?_)
      obtain ⟨hv_, rfl⟩ := hq_; cases hv_
      first | with_reducible refine x_ifB_eq (M := mX3_next) (pc := 104) 114 dX3_next_104 (by decide) (fun c104 => ?_) (fun c104 => ?_) | with_reducible refine x_if_eqN (M := mX3_next) (pc := 104) 114 dX3_next_104 (by decide) (by omega) (fun c104 => ?_) (fun c104 => ?_) | refine x_if_eq (M := mX3_next) (pc := 104) 114 dX3_next_104 (by decide) (fun c104 => ?_) (fun c104 => ?_)
      · refine x_aload_n (M := mX3_next) (pc := 114) dX3_next_114 rfl ?_
        refine x_aload_n (M := mX3_next) (pc := 115) dX3_next_115 rfl ?_
        refine x_get (M := mX3_next) (pc := 116) kcX3 5 rfl q2840 dX3_next_116 hM.1 rfl ?_
        refine x_aload_n (M := mX3_next) (pc := 119) dX3_next_119 rfl ?_
        refine x_get (M := mX3_next) (pc := 120) kcX3 18 rfl q2853 dX3_next_120 hM.1 rfl ?_
        refine x_val (M := mX3_next) (pc := 123) (e18 _ _) ?_
        refine xm_ialdV (M := mX3_next) (pc := 123) hM dX3_next_123 (hT.2.2.1 _ (by omega)) (by decide) (by first | decide | (simp only [mSz] <;> omega)) ?_
        refine x_bipush (M := mX3_next) (pc := 124) (v := nI 59) dX3_next_124 (by decide) ?_
        first | with_reducible refine x_icmp_neN (M := mX3_next) (pc := 126) 133 dX3_next_126 (by decide) (by omega) (by omega) (fun c126 => ?_) (fun c126 => ?_) | refine x_icmp_ne (M := mX3_next) (pc := 126) 133 dX3_next_126 (by decide) (fun c126 => ?_) (fun c126 => ?_)
        · refine x_iconst (M := mX3_next) (pc := 133) (v := nI 4) dX3_next_133 (by decide) ?_
          refine xm_put20 (M := mX3_next) (pc := 134) hM hF q2855 dX3_next_134 (fun h hM hF => ?_)
          refine x_aload_n (M := mX3_next) (pc := 137) dX3_next_137 rfl ?_
          refine x_dup (M := mX3_next) (pc := 138) dX3_next_138 ?_
          refine x_get (M := mX3_next) (pc := 139) kcX3 18 rfl q2853 dX3_next_139 hM.1 rfl ?_
          refine x_val (M := mX3_next) (pc := 142) ((upd_n _ _ (by decide)).trans (e18 _ _)) ?_
          refine x_iconst (M := mX3_next) (pc := 142) (v := nI 1) dX3_next_142 (by decide) ?_
          first | with_reducible refine x_iaddN (M := mX3_next) (pc := 143) dX3_next_143 ?_ | refine x_iadd (M := mX3_next) (pc := 143) dX3_next_143 ?_
          refine xm_put18 (M := mX3_next) (pc := 144) hM hF q2853 dX3_next_144 (fun h hM hF => ?_)
          refine x_vret (M := mX3_next) (pc := 147) dX3_next_147 rfl (Nat.le_refl 0) (Nat.le_refl 0) ⟨_, _, _, _, rfl, ?_, hM, hF⟩
          first | (refine ⟨rfl, rfl, (fun j j1 j2 j3 j4 => by simp [upd, j1, j2, j3, j4]), ?_, ?_, ?_, ?_, ?_⟩ <;> simp [t_sp, t_kd, t_wo, t_nu, upd, c59, c82, c104, c126, show isL 59 = false from rfl, show isF 59 = false from rfl] <;> (try (split <;> rfl)) <;> (try rfl)) | (refine ⟨rfl, rfl, (fun j j1 j2 j3 j4 => by simp [upd, j1, j2, j3, j4]), ?_, ?_, ?_, ?_, ?_⟩ <;> simp [t_sp, t_kd, t_wo, t_nu, upd, c59, c82, c104] <;> (try (split <;> rfl)) <;> (try rfl)) | (refine ⟨rfl, rfl, (fun j j1 j2 j3 j4 => by simp [upd, j1, j2, j3, j4]), ?_, ?_, ?_, ?_, ?_⟩ <;> simp [t_sp, t_kd, t_wo, t_nu, upd, c59, c82] <;> (try (split <;> rfl)) <;> (try rfl)) | (refine ⟨rfl, rfl, (fun j j1 j2 j3 j4 => by simp [upd, j1, j2, j3, j4]), ?_, ?_, ?_, ?_, ?_⟩ <;> simp [t_sp, t_kd, t_wo, t_nu, upd, c59] <;> (try (split <;> rfl)) <;> (try rfl))
        · refine x_iconst (M := mX3_next) (pc := 129) (v := nI 3) dX3_next_129 (by decide) ?_
          refine x_goto (M := mX3_next) (pc := 130) 134 dX3_next_130 (by decide) ?_
          refine xm_put20 (M := mX3_next) (pc := 134) hM hF q2855 dX3_next_134 (fun h hM hF => ?_)
          refine x_aload_n (M := mX3_next) (pc := 137) dX3_next_137 rfl ?_
          refine x_dup (M := mX3_next) (pc := 138) dX3_next_138 ?_
          refine x_get (M := mX3_next) (pc := 139) kcX3 18 rfl q2853 dX3_next_139 hM.1 rfl ?_
          refine x_val (M := mX3_next) (pc := 142) ((upd_n _ _ (by decide)).trans (e18 _ _)) ?_
          refine x_iconst (M := mX3_next) (pc := 142) (v := nI 1) dX3_next_142 (by decide) ?_
          first | with_reducible refine x_iaddN (M := mX3_next) (pc := 143) dX3_next_143 ?_ | refine x_iadd (M := mX3_next) (pc := 143) dX3_next_143 ?_
          refine xm_put18 (M := mX3_next) (pc := 144) hM hF q2853 dX3_next_144 (fun h hM hF => ?_)
          refine x_vret (M := mX3_next) (pc := 147) dX3_next_147 rfl (Nat.le_refl 0) (Nat.le_refl 0) ⟨_, _, _, _, rfl, ?_, hM, hF⟩
          first | (refine ⟨rfl, rfl, (fun j j1 j2 j3 j4 => by simp [upd, j1, j2, j3, j4]), ?_, ?_, ?_, ?_, ?_⟩ <;> simp [t_sp, t_kd, t_wo, t_nu, upd, c59, c82, c104, c126, show isL 59 = false from rfl, show isF 59 = false from rfl] <;> (try (split <;> rfl)) <;> (try rfl)) | (refine ⟨rfl, rfl, (fun j j1 j2 j3 j4 => by simp [upd, j1, j2, j3, j4]), ?_, ?_, ?_, ?_, ?_⟩ <;> simp [t_sp, t_kd, t_wo, t_nu, upd, c59, c82, c104] <;> (try (split <;> rfl)) <;> (try rfl)) | (refine ⟨rfl, rfl, (fun j j1 j2 j3 j4 => by simp [upd, j1, j2, j3, j4]), ?_, ?_, ?_, ?_, ?_⟩ <;> simp [t_sp, t_kd, t_wo, t_nu, upd, c59, c82] <;> (try (split <;> rfl)) <;> (try rfl)) | (refine ⟨rfl, rfl, (fun j j1 j2 j3 j4 => by simp [upd, j1, j2, j3, j4]), ?_, ?_, ?_, ?_, ?_⟩ <;> simp [t_sp, t_kd, t_wo, t_nu, upd, c59] <;> (try (split <;> rfl)) <;> (try rfl))
      · refine x_aload_n (M := mX3_next) (pc := 107) dX3_next_107 rfl ?_
        refine x_V0 (M := mX3_next) (pc := 108) (M' := mX3_readNumber) q3126 kVX3_readNumber dX3_next_108 (m_readNumber (d - 1) len (t_b tx len p) tx (by omega) hT' (e18 _ _) (e19 _ _) (by omega) h hM) (hM.is) (fun v_ h hq_ => ?_)
        obtain ⟨v_, I_, B_, wd_, hv_, hQ, hM_, hF_⟩ := hq_
        cases hv_
        replace hF := hF.tr hF_
        replace hM := hM_
        clear hM_ hF_
        obtain ⟨rfl, rfl, rfl, rfl⟩ := hQ
        refine x_goto (M := mX3_next) (pc := 111) 147 dX3_next_111 (by decide) ?_
        refine x_vret (M := mX3_next) (pc := 147) dX3_next_147 rfl (Nat.le_refl 0) (Nat.le_refl 0) ⟨_, _, _, _, rfl, ?_, hM, hF⟩
        first | (refine ⟨rfl, rfl, (fun j j1 j2 j3 j4 => by simp [upd, j1, j2, j3, j4]), ?_, ?_, ?_, ?_, ?_⟩ <;> simp [t_sp, t_kd, t_wo, t_nu, upd, c59, c82, c104, c126, show isL 59 = false from rfl, show isF 59 = false from rfl] <;> (try (split <;> rfl)) <;> (try rfl)) | (refine ⟨rfl, rfl, (fun j j1 j2 j3 j4 => by simp [upd, j1, j2, j3, j4]), ?_, ?_, ?_, ?_, ?_⟩ <;> simp [t_sp, t_kd, t_wo, t_nu, upd, c59, c82, c104] <;> (try (split <;> rfl)) <;> (try rfl)) | (refine ⟨rfl, rfl, (fun j j1 j2 j3 j4 => by simp [upd, j1, j2, j3, j4]), ?_, ?_, ?_, ?_, ?_⟩ <;> simp [t_sp, t_kd, t_wo, t_nu, upd, c59, c82] <;> (try (split <;> rfl)) <;> (try rfl)) | (refine ⟨rfl, rfl, (fun j j1 j2 j3 j4 => by simp [upd, j1, j2, j3, j4]), ?_, ?_, ?_, ?_, ?_⟩ <;> simp [t_sp, t_kd, t_wo, t_nu, upd, c59] <;> (try (split <;> rfl)) <;> (try rfl))
    · refine x_aload_n (M := mX3_next) (pc := 85) dX3_next_85 rfl ?_
      refine x_V0 (M := mX3_next) (pc := 86) (M' := mX3_readWord) q3115 kVX3_readWord dX3_next_86 (m_readWord (d - 1) len (t_b tx len p) tx (by omega) hT' (e18 _ _) hbl h hM) (hM.is) (fun v_ h hq_ => ?_)
      obtain ⟨v_, I_, B_, wd_, hv_, hQ, hM_, hF_⟩ := hq_
      cases hv_
      replace hF := hF.tr hF_
      replace hM := hM_
      clear hM_ hF_
      obtain ⟨rfl, rfl, rfl, rfl⟩ := hQ
      refine x_goto (M := mX3_next) (pc := 89) 147 dX3_next_89 (by decide) ?_
      refine x_vret (M := mX3_next) (pc := 147) dX3_next_147 rfl (Nat.le_refl 0) (Nat.le_refl 0) ⟨_, _, _, _, rfl, ?_, hM, hF⟩
      first | (refine ⟨rfl, rfl, (fun j j1 j2 j3 j4 => by simp [upd, j1, j2, j3, j4]), ?_, ?_, ?_, ?_, ?_⟩ <;> simp [t_sp, t_kd, t_wo, t_nu, upd, c59, c82, c104, c126, show isL 59 = false from rfl, show isF 59 = false from rfl] <;> (try (split <;> rfl)) <;> (try rfl)) | (refine ⟨rfl, rfl, (fun j j1 j2 j3 j4 => by simp [upd, j1, j2, j3, j4]), ?_, ?_, ?_, ?_, ?_⟩ <;> simp [t_sp, t_kd, t_wo, t_nu, upd, c59, c82, c104] <;> (try (split <;> rfl)) <;> (try rfl)) | (refine ⟨rfl, rfl, (fun j j1 j2 j3 j4 => by simp [upd, j1, j2, j3, j4]), ?_, ?_, ?_, ?_, ?_⟩ <;> simp [t_sp, t_kd, t_wo, t_nu, upd, c59, c82] <;> (try (split <;> rfl)) <;> (try rfl)) | (refine ⟨rfl, rfl, (fun j j1 j2 j3 j4 => by simp [upd, j1, j2, j3, j4]), ?_, ?_, ?_, ?_, ?_⟩ <;> simp [t_sp, t_kd, t_wo, t_nu, upd, c59] <;> (try (split <;> rfl)) <;> (try rfl))
  · refine x_aload_n (M := mX3_next) (pc := 62) dX3_next_62 rfl ?_
    refine x_iconst (M := mX3_next) (pc := 63) (v := nI 0) dX3_next_63 (by decide) ?_
    refine xm_put20 (M := mX3_next) (pc := 64) hM hF q2855 dX3_next_64 (fun h hM hF => ?_)
    refine x_goto (M := mX3_next) (pc := 67) 147 dX3_next_67 (by decide) ?_
    refine x_vret (M := mX3_next) (pc := 147) dX3_next_147 rfl (Nat.le_refl 0) (Nat.le_refl 0) ⟨_, _, _, _, rfl, ?_, hM, hF⟩
    first | (refine ⟨rfl, rfl, (fun j j1 j2 j3 j4 => by simp [upd, j1, j2, j3, j4]), ?_, ?_, ?_, ?_, ?_⟩ <;> simp [t_sp, t_kd, t_wo, t_nu, upd, c59, c82, c104, c126, show isL 59 = false from rfl, show isF 59 = false from rfl] <;> (try (split <;> rfl)) <;> (try rfl)) | (refine ⟨rfl, rfl, (fun j j1 j2 j3 j4 => by simp [upd, j1, j2, j3, j4]), ?_, ?_, ?_, ?_, ?_⟩ <;> simp [t_sp, t_kd, t_wo, t_nu, upd, c59, c82, c104] <;> (try (split <;> rfl)) <;> (try rfl)) | (refine ⟨rfl, rfl, (fun j j1 j2 j3 j4 => by simp [upd, j1, j2, j3, j4]), ?_, ?_, ?_, ?_, ?_⟩ <;> simp [t_sp, t_kd, t_wo, t_nu, upd, c59, c82] <;> (try (split <;> rfl)) <;> (try rfl)) | (refine ⟨rfl, rfl, (fun j j1 j2 j3 j4 => by simp [upd, j1, j2, j3, j4]), ?_, ?_, ?_, ?_, ?_⟩ <;> simp [t_sp, t_kd, t_wo, t_nu, upd, c59] <;> (try (split <;> rfl)) <;> (try rfl))
theorem t_sp_le {tx : Nat → Nat} {len p : Nat} (hp : p ≤ len) : t_sp tx len p ≤ len := by
  have h0 := fstN_le (fun k => !isS (tx k)) (len - p) p
  have hb : t_b tx len p ≤ len := by unfold t_b t_end; omega
  have h1 := fstN_le (fun k => !isL (tx k)) (len - t_b tx len p) (t_b tx len p)
  have h2 := fstN_le (fun k => !isF (tx k)) (len - t_b tx len p) (t_b tx len p)
  unfold t_sp
  repeat' split
  · omega
  · unfold t_end; omega
  · unfold t_end; omega
  · omega
theorem NX.tx {I' : Nat → Int32} {B' : Nat → Nat → Int32} {wd' : Int64} {v : Option Value} {tx : Nat → Nat} {len p : Nat} (hT : TX I B len tx) (h : NX I B tx len p v I' B' wd') : TX I' B' len tx :=
  ⟨(h.2.2.1 4 (by decide) (by decide) (by decide) (by decide)).trans hT.1, hT.2.1, by rw [h.2.1]; exact hT.2.2.1, hT.2.2.2⟩
end MODELP

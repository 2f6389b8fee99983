section MODELT
set_option maxRecDepth 100000
/-- what a command needs: well, its numbers, whole, where the token behind begins -/
abbrev RN : Type := Bool × List Nat × Bool × Nat
def t_rnE (tx : Nat → Nat) (len : Nat) (cut : Bool) (p : Nat) : RN := match t_ed (t_wo tx len p) with
  | none => (false, [], false, p)
  | some e => if cut || decide (e = 0) || decide (e = 2) then (true, [e], false, t_eg tx len p) else (false, [], false, p)
def t_rnW (tx : Nat → Nat) (len p : Nat) : Bool := decide (3 ≤ (t_ns tx len 3 p).1.length) && decide (t_wo tx len (t_ns tx len 3 p).2 = 24395141)
def t_rnN (tx : Nat → Nat) (len p : Nat) : RN := (decide (3 ≤ (t_ns tx len 3 p).1.length), (t_ns tx len 3 p).1, t_rnW tx len p, if t_rnW tx len p then t_sp tx len (t_ns tx len 3 p).2 else (t_ns tx len 3 p).2)
def t_rnA (tx : Nat → Nat) (len a b p : Nat) : RN := (decide (a ≤ (t_ns tx len b p).1.length), (t_ns tx len b p).1, false, (t_ns tx len b p).2)
def t_cn (w : Int64) : Nat := if w = 20190388 then 2 else if w = 719535492 then 0 else 1
def t_rn (tx : Nat → Nat) (len : Nat) (w : Int64) (p : Nat) : RN := if w = 3764 then t_rnE tx len true p else if w = 20456901 then t_rnE tx len false p else if w = 474757 then t_rnN tx len p else if w = 212356 then t_rnA tx len 1 4 p else t_rnA tx len (t_cn w) (t_cn w) p
def RNP (I0 : Nat → Int32) (B0 : Nat → Nat → Int32) (I : Nat → Int32) (B : Nat → Nat → Int32) (wd : Int64) (tx : Nat → Nat) (len : Nat) (r : RN) : Prop :=
  TX I B len tx ∧ TK I wd tx len r.2.2.2 ∧ (∀ j, j ≠ 18 → j ≠ 19 → j ≠ 20 → j ≠ 22 → j ≠ 24 → j ≠ 25 → I j = I0 j) ∧ (∀ j, j ≠ 23 → B j = B0 j) ∧ I 25 = bI r.2.2.1 ∧ (r.1 = true → ∀ k, k < r.2.1.length → B 23 k = nI (r.2.1.getD k 0))
variable {g : xG} {l : Launch} {m : Nat} {A : Nat → Nat} {I : Nat → Int32} {B : Nat → Nat → Int32} {wd : Int64}
theorem RNP.nb {I0 I1 I' : Nat → Int32} {B' : Nat → Nat → Int32} {wd' : Int64} {tx : Nat → Nat} {len : Nat} {L : List Nat} {p : Nat} (h1 : ∀ j, j ≠ 25 → I1 j = I0 j) (h25 : I1 25 = 0) (hN : NB I1 B I' B' wd' tx len L p) (a : Bool) : RNP I0 B I' B' wd' tx len (a, L, false, p) :=
  ⟨hN.1, hN.2.1, fun j j1 j2 j3 j4 j5 j6 => (hN.2.2.1 j j1 j2 j3 j4 j5).trans (h1 j j6), hN.2.2.2.1, (hN.2.2.1 25 (by decide) (by decide) (by decide) (by decide) (by decide)).trans h25, fun _ => hN.2.2.2.2.2⟩
theorem m_rnN (d len p : Nat) (tx : Nat → Nat) (w : Int64) (hd : 5 ≤ d) (a3 a4 : Option Value) (hT : TX I B len tx) (hp : I 18 = nI p) (hpl : p ≤ len) (h25 : I 25 = 0) (I0 : Nat → Int32) (h1 : ∀ j, j ≠ 25 → I j = I0 j) (h0 h : xH) (hM : MR g h m A I B wd) (hF : MF m A h0 h) (Q : Option Value → (Nat → Int32) → (Nat → Nat → Int32) → Int64 → Prop)
    (hE : ∀ I' B' wd', RNP I0 B I' B' wd' tx len (t_rnN tx len p) → Q (some (.int (bI (t_rnN tx len p).1))) I' B' wd') :
    X g l mX3_readsNeeds d 0 0 (fun o h' => ∃ v I' B' wd', o = .inl v ∧ Q v I' B' wd' ∧ MR g h' m A I' B' wd' ∧ MF m A h0 h') 104 [some (.ref m), some (.long w), none, a3, a4] [] h 0 0 := by
  refine x_aload_n (M := mX3_readsNeeds) (pc := 104) dX3_readsNeeds_104 rfl ?_
  refine x_iconst (M := mX3_readsNeeds) (pc := 105) (v := nI 3) dX3_readsNeeds_105 (by decide) ?_
  refine x_iconst (M := mX3_readsNeeds) (pc := 106) (v := nI 3) dX3_readsNeeds_106 (by decide) ?_
  refine x_V2 (M := mX3_readsNeeds) (pc := 107) (M' := mX3_numbers) q3154 kVX3_numbers dX3_readsNeeds_107 (m_numbers (d - 1) len p 3 3 tx (by omega) (by omega) (by omega) hT hp hpl h hM) (hM.is) (fun v_ h hq_ => ?_)
  obtain ⟨v_, I_, B_, wd_, hv_, hQ, hM_, hF_⟩ := hq_
  cases hv_
  replace hF := hF.tr hF_
  replace hM := hM_
  clear hM_ hF_
  obtain ⟨rfl, hN⟩ := hQ
  have hw : wd_ = t_wo tx len (t_ns tx len 3 p).2 := hN.2.1.2.2.1
  have hpl2 := hN.2.1.2.2.2.2.2
  have hsp := t_sp_le (tx := tx) hpl2
  refine x_istore3 (M := mX3_readsNeeds) (pc := 110) dX3_readsNeeds_110 ?_
  refine x_aload_n (M := mX3_readsNeeds) (pc := 111) dX3_readsNeeds_111 rfl ?_
  refine x_joinB 132 (t_rnW tx len p) (fun J => ?_) ?_
  · refine x_iload_n (M := mX3_readsNeeds) (pc := 112) dX3_readsNeeds_112 rfl ?_
    first | with_reducible refine x_ifB_eq (M := mX3_readsNeeds) (pc := 113) 131 dX3_readsNeeds_113 (by decide) (fun c113 => ?_) (fun c113 => ?_) | with_reducible refine x_if_eqN (M := mX3_readsNeeds) (pc := 113) 131 dX3_readsNeeds_113 (by decide) (by omega) (fun c113 => ?_) (fun c113 => ?_) | refine x_if_eq (M := mX3_readsNeeds) (pc := 113) 131 dX3_readsNeeds_113 (by decide) (fun c113 => ?_) (fun c113 => ?_)
    · refine x_iconst (M := mX3_readsNeeds) (pc := 131) (v := nI 0) dX3_readsNeeds_131 (by decide) ?_
      first | exact J false (by unfold t_rnW; rw [c113]; rfl) | exact J false (by rw [lg_eq, hw] at r_7; unfold t_rnW; rw [c113, decide_eq_false r_7]; rfl) | exact J true (by rw [lg_eq, hw] at r_7; unfold t_rnW; rw [c113, decide_eq_true r_7]; rfl)
    · refine x_aload_n (M := mX3_readsNeeds) (pc := 116) dX3_readsNeeds_116 rfl ?_
      refine x_get (M := mX3_readsNeeds) (pc := 117) kcX3 21 rfl q2856 dX3_readsNeeds_117 hM.1 rfl ?_
      refine x_ldc2 (M := mX3_readsNeeds) (pc := 120) dX3_readsNeeds_120 q3158 ?_
      refine x_lcmp (M := mX3_readsNeeds) (pc := 123) dX3_readsNeeds_123 ?_
      refine x_if_ne (M := mX3_readsNeeds) (pc := 124) 131 dX3_readsNeeds_124 (by decide) (fun r_7 => ?_) (fun r_7 => ?_)
      · refine x_iconst (M := mX3_readsNeeds) (pc := 131) (v := nI 0) dX3_readsNeeds_131 (by decide) ?_
        first | exact J false (by unfold t_rnW; rw [c113]; rfl) | exact J false (by rw [lg_eq, hw] at r_7; unfold t_rnW; rw [c113, decide_eq_false r_7]; rfl) | exact J true (by rw [lg_eq, hw] at r_7; unfold t_rnW; rw [c113, decide_eq_true r_7]; rfl)
      · refine x_iconst (M := mX3_readsNeeds) (pc := 127) (v := nI 1) dX3_readsNeeds_127 (by decide) ?_
        refine x_goto (M := mX3_readsNeeds) (pc := 128) 132 dX3_readsNeeds_128 (by decide) ?_
        first | exact J false (by unfold t_rnW; rw [c113]; rfl) | exact J false (by rw [lg_eq, hw] at r_7; unfold t_rnW; rw [c113, decide_eq_false r_7]; rfl) | exact J true (by rw [lg_eq, hw] at r_7; unfold t_rnW; rw [c113, decide_eq_true r_7]; rfl)
  refine xm_put25 (M := mX3_readsNeeds) (pc := 132) hM hF q2860 dX3_readsNeeds_132 (by first | with_reducible exact xz0 | with_reducible exact xz1 | with_reducible exact bI_01 _ | with_reducible assumption | assumption) (fun h hM hF => ?_)
  skip
  have hT2 : TX (upd I_ 25 (bI (t_rnW tx len p))) B_ len tx := ⟨(upd_n _ _ (by decide)).trans hN.1.1, hN.1.2⟩
  have e18 : upd I_ 25 (bI (t_rnW tx len p)) 18 = nI (t_sp tx len (t_ns tx len 3 p).2) := (upd_n _ _ (by decide)).trans hN.2.1.1
  have hTK : TK (upd I_ 25 (bI (t_rnW tx len p))) wd_ tx len (t_ns tx len 3 p).2 := ⟨e18, (upd_n _ _ (by decide)).trans hN.2.1.2.1, hw, fun z => (upd_n _ _ (by decide)).trans (hN.2.1.2.2.2.1 z), (upd_n _ _ (by decide)).trans hN.2.1.2.2.2.2.1, hpl2⟩
  have hfr : ∀ j, j ≠ 18 → j ≠ 19 → j ≠ 20 → j ≠ 22 → j ≠ 24 → j ≠ 25 → upd I_ 25 (bI (t_rnW tx len p)) j = I0 j := fun j j1 j2 j3 j4 j5 j6 => (upd_n _ _ j6).trans ((hN.2.2.1 j j1 j2 j3 j4 j5).trans (h1 j j6))
  refine x_aload_n (M := mX3_readsNeeds) (pc := 135) dX3_readsNeeds_135 rfl ?_
  refine x_get (M := mX3_readsNeeds) (pc := 136) kcX3 25 rfl q2860 dX3_readsNeeds_136 hM.1 rfl ?_
  refine x_val (M := mX3_readsNeeds) (pc := 139) (upd_s I_ 25 (bI (t_rnW tx len p))) ?_
  first | with_reducible refine x_ifB_eq (M := mX3_readsNeeds) (pc := 139) 146 dX3_readsNeeds_139 (by decide) (fun c139 => ?_) (fun c139 => ?_) | with_reducible refine x_if_eqN (M := mX3_readsNeeds) (pc := 139) 146 dX3_readsNeeds_139 (by decide) (by omega) (fun c139 => ?_) (fun c139 => ?_) | refine x_if_eq (M := mX3_readsNeeds) (pc := 139) 146 dX3_readsNeeds_139 (by decide) (fun c139 => ?_) (fun c139 => ?_)
  · refine x_iload_n (M := mX3_readsNeeds) (pc := 146) dX3_readsNeeds_146 rfl ?_
    refine x_zret (M := mX3_readsNeeds) (pc := 147) dX3_readsNeeds_147 rfl (by first | with_reducible exact xz0 | with_reducible exact xz1 | with_reducible exact bI_01 _ | with_reducible assumption | assumption) (Nat.le_refl 0) (Nat.le_refl 0) ⟨_, _, _, _, rfl, ?_, hM, hF⟩
    refine hE _ _ _ ⟨hT2, ?_, hfr, hN.2.2.2.1, upd_s _ _ _, fun _ => hN.2.2.2.2.2⟩
    show TK _ _ _ _ (if t_rnW tx len p then _ else _); rw [c139]; exact hTK
  · refine x_aload_n (M := mX3_readsNeeds) (pc := 142) dX3_readsNeeds_142 rfl ?_
    refine x_V0 (M := mX3_readsNeeds) (pc := 143) (M' := mX3_next) q3106 kVX3_next dX3_readsNeeds_143 (m_next (d - 1) len (t_sp tx len (t_ns tx len 3 p).2) tx (by omega) hT2 e18 hsp h hM) (hM.is) (fun v_ h hq_ => ?_)
    obtain ⟨v_, I_, B_, wd_, hv_, hQ, hM_, hF_⟩ := hq_
    cases hv_
    replace hF := hF.tr hF_
    replace hM := hM_
    clear hM_ hF_
    have hP := NX.pm hT2 hsp hQ
    have hv := hQ.1
    subst hv
    refine x_iload_n (M := mX3_readsNeeds) (pc := 146) dX3_readsNeeds_146 rfl ?_
    refine x_zret (M := mX3_readsNeeds) (pc := 147) dX3_readsNeeds_147 rfl (by first | with_reducible exact xz0 | with_reducible exact xz1 | with_reducible exact bI_01 _ | with_reducible assumption | assumption) (Nat.le_refl 0) (Nat.le_refl 0) ⟨_, _, _, _, rfl, ?_, hM, hF⟩
    refine hE _ _ _ ⟨hP.1, ?_, fun j j1 j2 j3 j4 j5 j6 => (hP.2.2.1 j j1 j2 j3 j4).trans (hfr j j1 j2 j3 j4 j5 j6), fun j hj => by rw [hP.2.2.2]; exact hN.2.2.2.1 j hj, (hP.2.2.1 25 (by decide) (by decide) (by decide) (by decide)).trans (upd_s _ _ _), fun _ => by rw [hP.2.2.2]; exact hN.2.2.2.2.2⟩
    show TK _ _ _ _ (if t_rnW tx len p then _ else _); rw [c139]; exact hP.2.1
theorem m_rnE (d len p : Nat) (tx : Nat → Nat) (w : Int64) (cut : Bool) (hcut : cut = decide (w = 3764)) (hd : 5 ≤ d) (a3 a4 : Option Value) (hT : TX I B len tx) (hp : I 18 = nI p) (hpl : p ≤ len) (h25 : I 25 = 0) (I0 : Nat → Int32) (h1 : ∀ j, j ≠ 25 → I j = I0 j) (h0 h : xH) (hM : MR g h m A I B wd) (hF : MF m A h0 h) (Q : Option Value → (Nat → Int32) → (Nat → Nat → Int32) → Int64 → Prop)
    (hE : ∀ I' B' wd', RNP I0 B I' B' wd' tx len (t_rnE tx len cut p) → Q (some (.int (bI (t_rnE tx len cut p).1))) I' B' wd') :
    X g l mX3_readsNeeds d 0 0 (fun o h' => ∃ v I' B' wd', o = .inl v ∧ Q v I' B' wd' ∧ MR g h' m A I' B' wd' ∧ MF m A h0 h') 21 [some (.ref m), some (.long w), none, a3, a4] [] h 0 0 := by
  refine x_aload_n (M := mX3_readsNeeds) (pc := 21) dX3_readsNeeds_21 rfl ?_
  refine x_get (M := mX3_readsNeeds) (pc := 22) kcX3 18 rfl q2853 dX3_readsNeeds_22 hM.1 rfl ?_
  refine x_val (M := mX3_readsNeeds) (pc := 25) (hp) ?_
  refine x_istore3 (M := mX3_readsNeeds) (pc := 25) dX3_readsNeeds_25 ?_
  refine x_aload_n (M := mX3_readsNeeds) (pc := 26) dX3_readsNeeds_26 rfl ?_
  refine x_get (M := mX3_readsNeeds) (pc := 27) kcX3 23 rfl q2858 dX3_readsNeeds_27 hM.1 rfl ?_
  refine x_iconst (M := mX3_readsNeeds) (pc := 30) (v := nI 0) dX3_readsNeeds_30 (by decide) ?_
  refine x_aload_n (M := mX3_readsNeeds) (pc := 31) dX3_readsNeeds_31 rfl ?_
  refine x_V0 (M := mX3_readsNeeds) (pc := 32) (M' := mX3_edgeWord) q3146 kVX3_edgeWord dX3_readsNeeds_32 (m_edgeWord (d - 1) len p tx (by omega) hT hp hpl h hM) (hM.is) (fun v_ h hq_ => ?_)
  obtain ⟨v_, I_, B_, wd_, hv_, hQ, hM_, hF_⟩ := hq_
  cases hv_
  replace hF := hF.tr hF_
  replace hM := hM_
  clear hM_ hF_
  obtain ⟨rfl, hP⟩ := hQ
  refine xm_iast (M := mX3_readsNeeds) (pc := 35) hM hF dX3_readsNeeds_35 (by decide) (by first | decide | (simp only [mSz] <;> omega)) (fun h hM hF => ?_)
  have hT2 : TX I_ (va_up B_ 23 (upd (B_ 23) 0 (eI (t_ed (t_wo tx len p))))) len tx := ⟨hP.1.1, hP.1.2.1, by rw [va_up_n _ _ (by decide)]; exact hP.1.2.2.1, hP.1.2.2.2⟩
  have hfr : ∀ j, j ≠ 18 → j ≠ 19 → j ≠ 20 → j ≠ 22 → j ≠ 24 → j ≠ 25 → I_ j = I0 j := fun j j1 j2 j3 j4 _ j6 => (hP.2.2.1 j j1 j2 j3 j4).trans (h1 j j6)
  have hb : ∀ (U : Nat → Int32) j, j ≠ 23 → va_up B_ 23 U j = B j := fun U j hj => by rw [va_up_n _ _ hj, hP.2.2.2]
  have h25' : I_ 25 = 0 := (hP.2.2.1 25 (by decide) (by decide) (by decide) (by decide)).trans h25
  have hv : va_up B_ 23 (upd (B_ 23) 0 (eI (t_ed (t_wo tx len p)))) 23 0 = eI (t_ed (t_wo tx len p)) := by rw [va_up_s, upd_s]
  /- not well: back, and the token after p is read again -/
  have hbad : (t_rnE tx len cut p) = (false, [], false, p) → ∀ h, MR g h m A I_ (va_up B_ 23 (upd (B_ 23) 0 (eI (t_ed (t_wo tx len p))))) wd_ → MF m A h0 h → X g l mX3_readsNeeds d 0 0 (fun o h' => ∃ v I' B' wd', o = .inl v ∧ Q v I' B' wd' ∧ MR g h' m A I' B' wd' ∧ MF m A h0 h') 84 [some (.ref m), some (.long w), none, some (.int (nI p)), some (.int (nI 0))] [] h 0 0 := fun he h hM hF => by
    refine x_aload_n (M := mX3_readsNeeds) (pc := 84) dX3_readsNeeds_84 rfl ?_
    refine x_iload_n (M := mX3_readsNeeds) (pc := 85) dX3_readsNeeds_85 rfl ?_
    refine xm_put18 (M := mX3_readsNeeds) (pc := 86) hM hF q2853 dX3_readsNeeds_86 (fun h hM hF => ?_)
    refine x_aload_n (M := mX3_readsNeeds) (pc := 89) dX3_readsNeeds_89 rfl ?_
    have hT3 : TX (upd I_ 18 (nI p)) (va_up B_ 23 (upd (B_ 23) 0 (eI (t_ed (t_wo tx len p))))) len tx := ⟨(upd_n _ _ (by decide)).trans hT2.1, hT2.2⟩
    refine x_V0 (M := mX3_readsNeeds) (pc := 90) (M' := mX3_next) q3106 kVX3_next dX3_readsNeeds_90 (m_next (d - 1) len p tx (by omega) hT3 (upd_s _ _ _) hpl h hM) (hM.is) (fun v_ h hq_ => ?_)
    obtain ⟨v_, I_, B_, wd_, hv_, hQ, hM_, hF_⟩ := hq_
    cases hv_
    replace hF := hF.tr hF_
    replace hM := hM_
    clear hM_ hF_
    have hP3 := NX.pm hT3 hpl hQ
    have hv3 := hQ.1
    subst hv3
    refine x_iload (M := mX3_readsNeeds) (pc := 93) dX3_readsNeeds_93 rfl ?_
    refine x_zret (M := mX3_readsNeeds) (pc := 95) dX3_readsNeeds_95 rfl (by first | with_reducible exact xz0 | with_reducible exact xz1 | with_reducible exact bI_01 _ | with_reducible assumption | assumption) (Nat.le_refl 0) (Nat.le_refl 0) ⟨_, _, _, _, rfl, ?_, hM, hF⟩
    have hq := hE I_ B_ wd_ ⟨hP3.1, by rw [he]; exact hP3.2.1, fun j j1 j2 j3 j4 j5 j6 => (hP3.2.2.1 j j1 j2 j3 j4).trans ((upd_n _ _ j1).trans (hfr j j1 j2 j3 j4 j5 j6)), fun j hj => by rw [hP3.2.2.2]; exact hb _ j hj, by rw [he]; exact (hP3.2.2.1 25 (by decide) (by decide) (by decide) (by decide)).trans ((upd_n _ _ (by decide)).trans h25'), fun z => by rw [he] at z; cases z⟩
    rw [he] at hq
    exact hq
  cases hed : t_ed (t_wo tx len p) with
  | none =>
    have he : t_rnE tx len cut p = (false, [], false, p) := by unfold t_rnE; rw [hed]
    refine x_aload_n (M := mX3_readsNeeds) (pc := 36) dX3_readsNeeds_36 rfl ?_
    refine x_get (M := mX3_readsNeeds) (pc := 37) kcX3 23 rfl q2858 dX3_readsNeeds_37 hM.1 rfl ?_
    refine x_iconst (M := mX3_readsNeeds) (pc := 40) (v := nI 0) dX3_readsNeeds_40 (by decide) ?_
    refine xm_ialdV (M := mX3_readsNeeds) (pc := 41) hM dX3_readsNeeds_41 (hv.trans (congrArg eI hed)) (by decide) (by first | decide | (simp only [mSz] <;> omega)) ?_
    first | refine x_if_lt (M := mX3_readsNeeds) (pc := 42) 76 dX3_readsNeeds_42 (by decide) (fun c42 => ?_) (fun c42 => ?_)
    · refine x_iconst (M := mX3_readsNeeds) (pc := 76) (v := nI 0) dX3_readsNeeds_76 (by decide) ?_
      refine x_istore4 (M := mX3_readsNeeds) (pc := 77) dX3_readsNeeds_77 ?_
      refine x_iload (M := mX3_readsNeeds) (pc := 79) dX3_readsNeeds_79 rfl ?_
      first | with_reducible refine x_ifB_ne (M := mX3_readsNeeds) (pc := 81) 93 dX3_readsNeeds_81 (by decide) (fun c81 => ?_) (fun c81 => ?_) | with_reducible refine x_if_neN (M := mX3_readsNeeds) (pc := 81) 93 dX3_readsNeeds_81 (by decide) (by omega) (fun c81 => ?_) (fun c81 => ?_) | refine x_if_ne (M := mX3_readsNeeds) (pc := 81) 93 dX3_readsNeeds_81 (by decide) (fun c81 => ?_) (fun c81 => ?_)
      · exact absurd rfl c81
      · exact hbad he h hM hF
    · exact absurd (by decide) c42
  | some e =>
    have he4 : e < 4 := by unfold t_ed at hed; (repeat' split at hed) <;> first | (cases hed; omega) | cases hed
    have hv2 : va_up B_ 23 (upd (B_ 23) 0 (eI (t_ed (t_wo tx len p)))) 23 0 = nI e := hv.trans (by rw [hed]; rfl)
    have he : t_rnE tx len cut p = if cut || decide (e = 0) || decide (e = 2) then (true, [e], false, t_eg tx len p) else (false, [], false, p) := by unfold t_rnE; rw [hed]
    refine x_joinB 77 (cut || decide (e = 0) || decide (e = 2)) (fun J => ?_) ?_
    · refine x_aload_n (M := mX3_readsNeeds) (pc := 36) dX3_readsNeeds_36 rfl ?_
      refine x_get (M := mX3_readsNeeds) (pc := 37) kcX3 23 rfl q2858 dX3_readsNeeds_37 hM.1 rfl ?_
      refine x_iconst (M := mX3_readsNeeds) (pc := 40) (v := nI 0) dX3_readsNeeds_40 (by decide) ?_
      refine xm_ialdV (M := mX3_readsNeeds) (pc := 41) hM dX3_readsNeeds_41 (hv2) (by decide) (by first | decide | (simp only [mSz] <;> omega)) ?_
      first | refine x_if_lt (M := mX3_readsNeeds) (pc := 42) 76 dX3_readsNeeds_42 (by decide) (fun c42 => ?_) (fun c42 => ?_)
      · exact absurd c42 (nI_pos (by omega))
      · refine x_lload_n (M := mX3_readsNeeds) (pc := 45) dX3_readsNeeds_45 rfl ?_
        refine x_ldc2 (M := mX3_readsNeeds) (pc := 46) dX3_readsNeeds_46 q3138 ?_
        refine x_lcmp (M := mX3_readsNeeds) (pc := 49) dX3_readsNeeds_49 ?_
        refine x_if_eq (M := mX3_readsNeeds) (pc := 50) 72 dX3_readsNeeds_50 (by decide) (fun r_1 => ?_) (fun r_1 => ?_)
        · refine x_iconst (M := mX3_readsNeeds) (pc := 72) (v := nI 1) dX3_readsNeeds_72 (by decide) ?_
          refine x_goto (M := mX3_readsNeeds) (pc := 73) 77 dX3_readsNeeds_73 (by decide) ?_
          first | exact J true (by rw [lg_eq] at r_1; rw [hcut, decide_eq_true r_1]; rfl) | exact J true (by rw [decide_eq_true c59, Bool.or_true]; rfl) | exact J true (by rw [decide_eq_true c69, Bool.or_true]) | exact J false (by rw [lg_eq] at r_1; rw [hcut, decide_eq_false r_1, decide_eq_false c59, decide_eq_false c69]; rfl)
        · refine x_aload_n (M := mX3_readsNeeds) (pc := 53) dX3_readsNeeds_53 rfl ?_
          refine x_get (M := mX3_readsNeeds) (pc := 54) kcX3 23 rfl q2858 dX3_readsNeeds_54 hM.1 rfl ?_
          refine x_iconst (M := mX3_readsNeeds) (pc := 57) (v := nI 0) dX3_readsNeeds_57 (by decide) ?_
          refine xm_ialdV (M := mX3_readsNeeds) (pc := 58) hM dX3_readsNeeds_58 (hv2) (by decide) (by first | decide | (simp only [mSz] <;> omega)) ?_
          first | with_reducible refine x_ifB_eq (M := mX3_readsNeeds) (pc := 59) 72 dX3_readsNeeds_59 (by decide) (fun c59 => ?_) (fun c59 => ?_) | with_reducible refine x_if_eqN (M := mX3_readsNeeds) (pc := 59) 72 dX3_readsNeeds_59 (by decide) (by omega) (fun c59 => ?_) (fun c59 => ?_) | refine x_if_eq (M := mX3_readsNeeds) (pc := 59) 72 dX3_readsNeeds_59 (by decide) (fun c59 => ?_) (fun c59 => ?_)
          · refine x_iconst (M := mX3_readsNeeds) (pc := 72) (v := nI 1) dX3_readsNeeds_72 (by decide) ?_
            refine x_goto (M := mX3_readsNeeds) (pc := 73) 77 dX3_readsNeeds_73 (by decide) ?_
            first | exact J true (by rw [lg_eq] at r_1; rw [hcut, decide_eq_true r_1]; rfl) | exact J true (by rw [decide_eq_true c59, Bool.or_true]; rfl) | exact J true (by rw [decide_eq_true c69, Bool.or_true]) | exact J false (by rw [lg_eq] at r_1; rw [hcut, decide_eq_false r_1, decide_eq_false c59, decide_eq_false c69]; rfl)
          · refine x_aload_n (M := mX3_readsNeeds) (pc := 62) dX3_readsNeeds_62 rfl ?_
            refine x_get (M := mX3_readsNeeds) (pc := 63) kcX3 23 rfl q2858 dX3_readsNeeds_63 hM.1 rfl ?_
            refine x_iconst (M := mX3_readsNeeds) (pc := 66) (v := nI 0) dX3_readsNeeds_66 (by decide) ?_
            refine xm_ialdV (M := mX3_readsNeeds) (pc := 67) hM dX3_readsNeeds_67 (hv2) (by decide) (by first | decide | (simp only [mSz] <;> omega)) ?_
            refine x_iconst (M := mX3_readsNeeds) (pc := 68) (v := nI 2) dX3_readsNeeds_68 (by decide) ?_
            first | with_reducible refine x_icmp_neN (M := mX3_readsNeeds) (pc := 69) 76 dX3_readsNeeds_69 (by decide) (by omega) (by omega) (fun c69 => ?_) (fun c69 => ?_) | refine x_icmp_ne (M := mX3_readsNeeds) (pc := 69) 76 dX3_readsNeeds_69 (by decide) (fun c69 => ?_) (fun c69 => ?_)
            · refine x_iconst (M := mX3_readsNeeds) (pc := 76) (v := nI 0) dX3_readsNeeds_76 (by decide) ?_
              first | exact J true (by rw [lg_eq] at r_1; rw [hcut, decide_eq_true r_1]; rfl) | exact J true (by rw [decide_eq_true c59, Bool.or_true]; rfl) | exact J true (by rw [decide_eq_true c69, Bool.or_true]) | exact J false (by rw [lg_eq] at r_1; rw [hcut, decide_eq_false r_1, decide_eq_false c59, decide_eq_false c69]; rfl)
            · refine x_iconst (M := mX3_readsNeeds) (pc := 72) (v := nI 1) dX3_readsNeeds_72 (by decide) ?_
              refine x_goto (M := mX3_readsNeeds) (pc := 73) 77 dX3_readsNeeds_73 (by decide) ?_
              first | exact J true (by rw [lg_eq] at r_1; rw [hcut, decide_eq_true r_1]; rfl) | exact J true (by rw [decide_eq_true c59, Bool.or_true]; rfl) | exact J true (by rw [decide_eq_true c69, Bool.or_true]) | exact J false (by rw [lg_eq] at r_1; rw [hcut, decide_eq_false r_1, decide_eq_false c59, decide_eq_false c69]; rfl)
    refine x_istore4 (M := mX3_readsNeeds) (pc := 77) dX3_readsNeeds_77 ?_
    skip
    cases hcc : (cut || decide (e = 0) || decide (e = 2)) with
    | false =>
      rw [hcc] at he
      refine x_iload (M := mX3_readsNeeds) (pc := 79) dX3_readsNeeds_79 rfl ?_
      first | with_reducible refine x_ifB_ne (M := mX3_readsNeeds) (pc := 81) 93 dX3_readsNeeds_81 (by decide) (fun c81 => ?_) (fun c81 => ?_) | with_reducible refine x_if_neN (M := mX3_readsNeeds) (pc := 81) 93 dX3_readsNeeds_81 (by decide) (by omega) (fun c81 => ?_) (fun c81 => ?_) | refine x_if_ne (M := mX3_readsNeeds) (pc := 81) 93 dX3_readsNeeds_81 (by decide) (fun c81 => ?_) (fun c81 => ?_)
      · cases c81
      · exact hbad he h hM hF
    | true =>
      rw [hcc] at he
      refine x_iload (M := mX3_readsNeeds) (pc := 79) dX3_readsNeeds_79 rfl ?_
      first | with_reducible refine x_ifB_ne (M := mX3_readsNeeds) (pc := 81) 93 dX3_readsNeeds_81 (by decide) (fun c81 => ?_) (fun c81 => ?_) | with_reducible refine x_if_neN (M := mX3_readsNeeds) (pc := 81) 93 dX3_readsNeeds_81 (by decide) (by omega) (fun c81 => ?_) (fun c81 => ?_) | refine x_if_ne (M := mX3_readsNeeds) (pc := 81) 93 dX3_readsNeeds_81 (by decide) (fun c81 => ?_) (fun c81 => ?_)
      rotate_left
      · cases c81
      skip
      refine x_iload (M := mX3_readsNeeds) (pc := 93) dX3_readsNeeds_93 rfl ?_
      refine x_zret (M := mX3_readsNeeds) (pc := 95) dX3_readsNeeds_95 rfl (by first | with_reducible exact xz0 | with_reducible exact xz1 | with_reducible exact bI_01 _ | with_reducible assumption | assumption) (Nat.le_refl 0) (Nat.le_refl 0) ⟨_, _, _, _, rfl, ?_, hM, hF⟩
      have hn0 : (t_rnE tx len cut p).1 = true → ∀ k, k < (t_rnE tx len cut p).2.1.length → va_up B_ 23 (upd (B_ 23) 0 (eI (t_ed (t_wo tx len p)))) 23 k = nI ((t_rnE tx len cut p).2.1.getD k 0) := by
        rw [he]
        intro _ k hk
        have hk1 : k < 1 := hk
        have : k = 0 := by omega
        subst this
        exact hv2
      have hq := hE _ _ _ ⟨hT2, by rw [he]; exact hP.2.1, hfr, hb _, by rw [he]; exact h25', hn0⟩
      rw [he] at hq
      exact hq
theorem m_readsNeeds (d len p : Nat) (tx : Nat → Nat) (w : Int64) (hd : 5 ≤ d) (hT : TX I B len tx) (hp : I 18 = nI p) (hpl : p ≤ len) : MC g l mX3_readsNeeds d [.long w] m A I B wd (fun v I' B' wd' => v = some (.int (bI (t_rn tx len w p).1)) ∧ RNP I B I' B' wd' tx len (t_rn tx len w p) ∧ (w = 212356 → I' 24 = nI (t_rn tx len w p).2.1.length)) := by
  intro h hM
  have hF : MF m A h h := MF.rf
  have hT' : TX (upd I 25 (nI 0)) B len tx := ⟨(upd_n _ _ (by decide)).trans hT.1, hT.2⟩
  have hp' : upd I 25 (nI 0) 18 = nI p := (upd_n _ _ (by decide)).trans hp
  have h1 : ∀ j, j ≠ 25 → upd I 25 (nI 0) j = I j := fun j hj => upd_n _ _ hj
  have h25 : upd I 25 (nI 0) 25 = 0 := upd_s _ _ _
  refine Ct.of [some (.ref m), some (.long w), none, none, none] (by decide +kernel) rfl (Nat.le_of_ble_eq_true rfl) rfl rfl ?_
  have hA : ∀ a b, a ≤ 4 → b ≤ 4 → ∀ (v : Option Value) I' B' wd', (v = some (.int (bI (decide (a ≤ (t_ns tx len b p).1.length)))) ∧ NB (upd I 25 (nI 0)) B I' B' wd' tx len (t_ns tx len b p).1 (t_ns tx len b p).2) → t_rn tx len w p = t_rnA tx len a b p → v = some (.int (bI (t_rn tx len w p).1)) ∧ RNP I B I' B' wd' tx len (t_rn tx len w p) ∧ (w = 212356 → I' 24 = nI (t_rn tx len w p).2.1.length) := fun a b _ _ v I' B' wd' hq he => by
    rw [he]
    exact ⟨hq.1, RNP.nb h1 h25 hq.2 _, fun _ => hq.2.2.2.2.2.1⟩
  have hcn : t_cn w ≤ 4 := by
    unfold t_cn
    repeat' split
    all_goals omega
  refine x_aload_n (M := mX3_readsNeeds) (pc := 0) dX3_readsNeeds_0 rfl ?_
  refine x_iconst (M := mX3_readsNeeds) (pc := 1) (v := nI 0) dX3_readsNeeds_1 (by decide) ?_
  refine xm_put25 (M := mX3_readsNeeds) (pc := 2) hM hF q2860 dX3_readsNeeds_2 (by first | with_reducible exact xz0 | with_reducible exact xz1 | with_reducible exact bI_01 _ | with_reducible assumption | assumption) (fun h hM hF => ?_)
  refine x_lload_n (M := mX3_readsNeeds) (pc := 5) dX3_readsNeeds_5 rfl ?_
  refine x_ldc2 (M := mX3_readsNeeds) (pc := 6) dX3_readsNeeds_6 q3138 ?_
  refine x_lcmp (M := mX3_readsNeeds) (pc := 9) dX3_readsNeeds_9 ?_
  refine x_if_eq (M := mX3_readsNeeds) (pc := 10) 21 dX3_readsNeeds_10 (by decide) (fun r_1 => ?_) (fun r_1 => ?_)
  · first | (rw [lg_eq] at *; have he : t_rn tx len w p = t_rnE tx len true p := by { rw [t_rn, if_pos r_1] }; exact m_rnE d len p tx w true (decide_eq_true r_1).symm hd _ _ hT' hp' hpl h25 I h1 _ h hM hF _ (fun I' B' wd' hR => by rw [he]; exact ⟨rfl, hR, fun z => absurd (z.symm.trans r_1) (by decide)⟩)) | (rw [lg_eq] at *; have he : t_rn tx len w p = t_rnE tx len false p := by { rw [t_rn, if_neg r_1, if_pos r_2] }; exact m_rnE d len p tx w false (decide_eq_false r_1).symm hd _ _ hT' hp' hpl h25 I h1 _ h hM hF _ (fun I' B' wd' hR => by rw [he]; exact ⟨rfl, hR, fun z => absurd (z.symm.trans r_2) (by decide)⟩))
  · refine x_lload_n (M := mX3_readsNeeds) (pc := 13) dX3_readsNeeds_13 rfl ?_
    refine x_ldc2 (M := mX3_readsNeeds) (pc := 14) dX3_readsNeeds_14 q3136 ?_
    refine x_lcmp (M := mX3_readsNeeds) (pc := 17) dX3_readsNeeds_17 ?_
    refine x_if_ne (M := mX3_readsNeeds) (pc := 18) 96 dX3_readsNeeds_18 (by decide) (fun r_2 => ?_) (fun r_2 => ?_)
    · refine x_lload_n (M := mX3_readsNeeds) (pc := 96) dX3_readsNeeds_96 rfl ?_
      refine x_ldc2 (M := mX3_readsNeeds) (pc := 97) dX3_readsNeeds_97 q3140 ?_
      refine x_lcmp (M := mX3_readsNeeds) (pc := 100) dX3_readsNeeds_100 ?_
      refine x_if_ne (M := mX3_readsNeeds) (pc := 101) 148 dX3_readsNeeds_101 (by decide) (fun r_3 => ?_) (fun r_3 => ?_)
      · refine x_lload_n (M := mX3_readsNeeds) (pc := 148) dX3_readsNeeds_148 rfl ?_
        refine x_ldc2 (M := mX3_readsNeeds) (pc := 149) dX3_readsNeeds_149 q3134 ?_
        refine x_lcmp (M := mX3_readsNeeds) (pc := 152) dX3_readsNeeds_152 ?_
        refine x_if_ne (M := mX3_readsNeeds) (pc := 153) 163 dX3_readsNeeds_153 (by decide) (fun r_4 => ?_) (fun r_4 => ?_)
        · refine x_joinV 188 (nI (t_cn w)) (fun J => ?_) ?_
          · refine x_lload_n (M := mX3_readsNeeds) (pc := 163) dX3_readsNeeds_163 rfl ?_
            refine x_ldc2 (M := mX3_readsNeeds) (pc := 164) dX3_readsNeeds_164 q3133 ?_
            refine x_lcmp (M := mX3_readsNeeds) (pc := 167) dX3_readsNeeds_167 ?_
            refine x_if_ne (M := mX3_readsNeeds) (pc := 168) 175 dX3_readsNeeds_168 (by decide) (fun r_5 => ?_) (fun r_5 => ?_)
            · refine x_lload_n (M := mX3_readsNeeds) (pc := 175) dX3_readsNeeds_175 rfl ?_
              refine x_ldc2 (M := mX3_readsNeeds) (pc := 176) dX3_readsNeeds_176 q3135 ?_
              refine x_lcmp (M := mX3_readsNeeds) (pc := 179) dX3_readsNeeds_179 ?_
              refine x_if_ne (M := mX3_readsNeeds) (pc := 180) 187 dX3_readsNeeds_180 (by decide) (fun r_6 => ?_) (fun r_6 => ?_)
              · refine x_iconst (M := mX3_readsNeeds) (pc := 187) (v := nI 1) dX3_readsNeeds_187 (by decide) ?_
                exact J _ (by rw [lg_eq] at *; simp only [t_cn, *]; rfl)
              · refine x_iconst (M := mX3_readsNeeds) (pc := 183) (v := nI 0) dX3_readsNeeds_183 (by decide) ?_
                refine x_goto (M := mX3_readsNeeds) (pc := 184) 188 dX3_readsNeeds_184 (by decide) ?_
                exact J _ (by rw [lg_eq] at *; simp only [t_cn, *]; rfl)
            · refine x_iconst (M := mX3_readsNeeds) (pc := 171) (v := nI 2) dX3_readsNeeds_171 (by decide) ?_
              refine x_goto (M := mX3_readsNeeds) (pc := 172) 188 dX3_readsNeeds_172 (by decide) ?_
              exact J _ (by rw [lg_eq] at *; simp only [t_cn, *]; rfl)
          refine x_istore3 (M := mX3_readsNeeds) (pc := 188) dX3_readsNeeds_188 ?_
          refine x_aload_n (M := mX3_readsNeeds) (pc := 189) dX3_readsNeeds_189 rfl ?_
          refine x_iload_n (M := mX3_readsNeeds) (pc := 190) dX3_readsNeeds_190 rfl ?_
          refine x_iload_n (M := mX3_readsNeeds) (pc := 191) dX3_readsNeeds_191 rfl ?_
          refine x_V2 (M := mX3_readsNeeds) (pc := 192) (M' := mX3_numbers) q3154 kVX3_numbers dX3_readsNeeds_192 (m_numbers (d - 1) len p (t_cn w) (t_cn w) tx (by omega) hcn hcn hT' hp' hpl h hM) (hM.is) (fun v_ h hq_ => ?_)
          obtain ⟨v_, I_, B_, wd_, hv_, hQ, hM_, hF_⟩ := hq_
          cases hv_
          replace hF := hF.tr hF_
          replace hM := hM_
          clear hM_ hF_
          have hA' := hA _ _ hcn hcn _ _ _ _ hQ; have hv := hQ.1; subst hv
          refine x_zret (M := mX3_readsNeeds) (pc := 195) dX3_readsNeeds_195 rfl (by first | with_reducible exact xz0 | with_reducible exact xz1 | with_reducible exact bI_01 _ | with_reducible assumption | assumption) (Nat.le_refl 0) (Nat.le_refl 0) ⟨_, _, _, _, rfl, ?_, hM, hF⟩
          rw [lg_eq] at *; exact hA' (by rw [t_rn, if_neg r_1, if_neg r_2, if_neg r_3, if_neg r_4])
        · refine x_aload_n (M := mX3_readsNeeds) (pc := 156) dX3_readsNeeds_156 rfl ?_
          refine x_iconst (M := mX3_readsNeeds) (pc := 157) (v := nI 1) dX3_readsNeeds_157 (by decide) ?_
          refine x_iconst (M := mX3_readsNeeds) (pc := 158) (v := nI 4) dX3_readsNeeds_158 (by decide) ?_
          refine x_V2 (M := mX3_readsNeeds) (pc := 159) (M' := mX3_numbers) q3154 kVX3_numbers dX3_readsNeeds_159 (m_numbers (d - 1) len p 1 4 tx (by omega) (by omega) (by omega) hT' hp' hpl h hM) (hM.is) (fun v_ h hq_ => ?_)
          obtain ⟨v_, I_, B_, wd_, hv_, hQ, hM_, hF_⟩ := hq_
          cases hv_
          replace hF := hF.tr hF_
          replace hM := hM_
          clear hM_ hF_
          have hA' := hA 1 4 (by omega) (by omega) _ _ _ _ hQ; have hv := hQ.1; subst hv
          refine x_zret (M := mX3_readsNeeds) (pc := 162) dX3_readsNeeds_162 rfl (by first | with_reducible exact xz0 | with_reducible exact xz1 | with_reducible exact bI_01 _ | with_reducible assumption | assumption) (Nat.le_refl 0) (Nat.le_refl 0) ⟨_, _, _, _, rfl, ?_, hM, hF⟩
          rw [lg_eq] at *; exact hA' (by rw [t_rn, if_neg r_1, if_neg r_2, if_neg r_3, if_pos r_4])
      · rw [lg_eq] at *; have he : t_rn tx len w p = t_rnN tx len p := by { rw [t_rn, if_neg r_1, if_neg r_2, if_pos r_3] }; exact m_rnN d len p tx w hd _ _ hT' hp' hpl h25 I h1 _ h hM hF _ (fun I' B' wd' hR => by rw [he]; exact ⟨rfl, hR, fun z => absurd (z.symm.trans r_3) (by decide)⟩)
    · first | (rw [lg_eq] at *; have he : t_rn tx len w p = t_rnE tx len true p := by { rw [t_rn, if_pos r_1] }; exact m_rnE d len p tx w true (decide_eq_true r_1).symm hd _ _ hT' hp' hpl h25 I h1 _ h hM hF _ (fun I' B' wd' hR => by rw [he]; exact ⟨rfl, hR, fun z => absurd (z.symm.trans r_1) (by decide)⟩)) | (rw [lg_eq] at *; have he : t_rn tx len w p = t_rnE tx len false p := by { rw [t_rn, if_neg r_1, if_pos r_2] }; exact m_rnE d len p tx w false (decide_eq_false r_1).symm hd _ _ hT' hp' hpl h25 I h1 _ h hM hF _ (fun I' B' wd' hR => by rw [he]; exact ⟨rfl, hR, fun z => absurd (z.symm.trans r_2) (by decide)⟩))
end MODELT

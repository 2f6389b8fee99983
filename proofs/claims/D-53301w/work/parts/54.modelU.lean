section MODELU
set_option maxRecDepth 100000
/-! programs of the reference: what a command does to the row, what a program does -/
def cS (r : CRes) : Option Row := match r with
  | .inl _ => none
  | .inr x => some x.2
def c_fl (s : Row) : List Nat → Option Row
  | [] => some s
  | f :: L => match cS (c_fold s (nI f)) with
    | none => none
    | some s' => c_fl s' L
def OKR (r : CRes) : Prop := match r with
  | .inl e => e < 0
  | .inr x => 0 ≤ x.1
theorem nI_nn {n : Nat} (h : n < 2 ^ 31) : (0 : Int32) ≤ nI n := nI_pos' h
variable {s : Row}
theorem o_setSheet (s : Row) (x y : Int32) : OKR (c_setSheet s x y) := by
  unfold c_setSheet
  split
  · rename_i hc
    rw [Bool.and_eq_true] at hc
    obtain ⟨a, rfl, ha⟩ := isSz_n hc.1
    obtain ⟨b, rfl, hb⟩ := isSz_n hc.2
    show 0 ≤ nI a * nI b
    rcases ha with rfl | rfl | rfl <;> rcases hb with rfl | rfl | rfl <;> decide
  · exact (by decide : (-1 : Int32) < 0)
theorem o_fold (h : WF s) (f : Int32) : OKR (c_fold s f) := by
  unfold c_fold
  split
  · exact (by decide : (-1 : Int32) < 0)
  · split
    · exact (by decide : (-2 : Int32) < 0)
    · have h4 := h.p1.nf
      have : 2 ^ zNf s ≤ 2 ^ 4 := Nat.pow_le_pow_right (by omega) h4
      exact nI_nn (by omega)
theorem o_unfold (h : WF s) : OKR (c_unfold s) := by
  unfold c_unfold
  split
  · exact (by decide : (-2 : Int32) < 0)
  · have h4 := h.p1.nf
    exact nI_nn (by omega)
theorem o_setSpine (h : WF s) (x : Int32) : OKR (c_setSpine s x) := by
  unfold c_setSpine
  split
  · exact (by decide : (-1 : Int32) < 0)
  · split
    · exact (by decide : (-2 : Int32) < 0)
    · obtain ⟨h1, h2⟩ := h.p7
      show 0 ≤ s 7
      rw [h1]; exact nI_nn (by omega)
theorem o_setLines (h : WF s) (x : Int32) : OKR (c_setLines s x) := by
  unfold c_setLines
  split
  · exact (by decide : (-1 : Int32) < 0)
  · obtain ⟨h1, h2, h3⟩ := h.p11
    show 0 ≤ s 11
    rw [h1]; exact nI_nn (by omega)
theorem prA_n (ly : Nat → Lay) (sp : Nat) (s : Row) : ∀ k, ∃ n, n ≤ k ∧ (p_prA ly sp s k).2 = nI n
  | 0 => ⟨0, Nat.le_refl _, rfl⟩
  | k + 1 => by
    obtain ⟨n, h1, h2⟩ := prA_n ly sp s k
    rw [p_prA]
    show ∃ m, m ≤ k + 1 ∧ (p_prA ly sp s k).2 + p_prC _ _ _ _ = nI m
    unfold p_prC
    rw [h2]
    split
    · exact ⟨n + 1, by omega, (nI_add n 1)⟩
    · exact ⟨n, by omega, (nI_add n 0)⟩
theorem o_printAll (h : WF s) (x : Int32) : OKR (c_printAll s x) := by
  unfold c_printAll
  split
  · exact (by decide : (-1 : Int32) < 0)
  · split
    · exact (by decide : (-2 : Int32) < 0)
    · obtain ⟨n, h1, h2⟩ := prA_n (zBy s x) (zN s 7) s (2 * (zHi s * zWi s))
      have := h.cell
      show 0 ≤ (p_prA _ _ _ _).2
      rw [h2]; exact nI_nn (by omega)
theorem o_cut (h : WF s) (x : Int32) : OKR (c_cut s x) := by
  unfold c_cut
  split
  · exact (by decide : (-1 : Int32) < 0)
  · split
    · exact (by decide : (-2 : Int32) < 0)
    · have hc := h.cell
      have := p_prs_le (zWi s) (zLy s) (zHi s * zWi s) x.toNatClampNeg (zHi s * zWi s)
      have h2 : zHi s * zWi s * (zHi s * zWi s) ≤ 16 * 16 := Nat.mul_le_mul hc.1 hc.1
      exact nI_nn (by unfold p_prs; omega)
theorem o_staple (h : WF s) (x : Int32) : OKR (c_staple s x) := by
  unfold c_staple
  split
  · exact (by decide : (-1 : Int32) < 0)
  · split
    · exact (by decide : (-2 : Int32) < 0)
    · split
      · exact (by decide : (-3 : Int32) < 0)
      · obtain ⟨-, h2, h3⟩ := h.p10
        exact nI_nn (by omega)
theorem o_addNote (h : WF s) (x y z w : Int32) : OKR (c_addNote s x y z w) := by
  unfold c_addNote
  split
  · exact (by decide : (-1 : Int32) < 0)
  · split
    · exact (by decide : (-3 : Int32) < 0)
    · have := h.p37.1
      exact nI_nn (by omega)
theorem cS_ws {r : CRes} {s' : Row} (h : KS r) (e : cS r = some s') : WS s' := by
  unfold cS at e
  split at e
  · cases e
  · rename_i x; cases e; exact h _ _ rfl
theorem c_fl_ws : ∀ (L : List Nat) (s s' : Row), WS s → c_fl s L = some s' → WS s'
  | [], s, s', h, e => by rw [c_fl] at e; cases e; exact h
  | f :: L, s, s', h, e => by
    rw [c_fl] at e
    split at e
    · cases e
    · rename_i s1 h1
      exact c_fl_ws L s1 s' (cS_ws ((k_fold h.1 _).ks h) h1) e
def t_do (s : Row) (w : Int64) (L : List Nat) (wh : Bool) : Option Row :=
  if w = 20190388 then cS (c_setSheet s (nI (L.getD 0 0)) (nI (L.getD 1 0)))
  else if w = 212356 then c_fl s L
  else if w = 719535492 then cS (c_unfold s)
  else if w = 20456901 then cS (c_setSpine s (if L.getD 0 0 = 0 then 0 else 1))
  else if w = 17376724 then cS (c_printAll s (nI (L.getD 0 0)))
  else if w = 3764 then cS (c_cut s (nI (L.getD 0 0)))
  else if w = 658555269 then cS (c_staple s (nI (L.getD 0 0)))
  else if w = 474757 then cS (c_addNote s (nI (L.getD 0 0)) (nI (L.getD 1 0)) (nI (L.getD 2 0)) (bI wh))
  else cS (c_setLines s (nI (L.getD 0 0)))
theorem t_do_ws {w : Int64} {L : List Nat} {wh : Bool} {s' : Row} (h : WS s) (e : t_do s w L wh = some s') : WS s' := by
  unfold t_do at e
  split at e
  · exact cS_ws ((k_setSheet h.1 _ _).ks h) e
  split at e
  · exact c_fl_ws _ _ _ h e
  split at e
  · exact cS_ws ((k_unfold h.1).ks h) e
  split at e
  · exact cS_ws ((k_setSpine h.1 _).ks h) e
  split at e
  · exact cS_ws ((k_printAll h.1 _).ks h) e
  split at e
  · exact cS_ws ((k_cut h.1 _).ks h) e
  split at e
  · exact cS_ws ((k_staple h.1 _).ks h) e
  split at e
  · exact cS_ws ((k_addNote h.1 _ _ _ _).ks h) e
  · exact cS_ws ((k_setLines h.1 _).ks h) e
variable {g : xG} {l : Launch} {m : Nat} {A : Nat → Nat} {I : Nat → Int32} {B : Nat → Nat → Int32} {wd : Int64}
/-- what a running program's command leaves alone -/
def RF (I : Nat → Int32) (B : Nat → Nat → Int32) (wd : Int64) (I' : Nat → Int32) (B' : Nat → Nat → Int32) (wd' : Int64) : Prop := (∀ j, j ≠ 7 → j ≠ 8 → j ≠ 9 → I' j = I j) ∧ (∀ j, j ≠ 0 → j < 10 ∨ 17 < j → B' j = B j) ∧ wd' = wd
theorem RF.rf : RF I B wd I B wd := ⟨fun _ _ _ _ => rfl, fun _ _ _ => rfl, rfl⟩
theorem RF.tr {I1 I2 : Nat → Int32} {B1 B2 : Nat → Nat → Int32} {w1 w2 : Int64} (a : RF I B wd I1 B1 w1) (b : RF I1 B1 w1 I2 B2 w2) : RF I B wd I2 B2 w2 := ⟨fun j h1 h2 h3 => (b.1 j h1 h2 h3).trans (a.1 j h1 h2 h3), fun j h1 h2 => (b.2.1 j h1 h2).trans (a.2.1 j h1 h2), b.2.2.trans a.2.2⟩
def DC (I : Nat → Int32) (B : Nat → Nat → Int32) (wd : Int64) (res : Option Row) : Option Value → (Nat → Int32) → (Nat → Nat → Int32) → Int64 → Prop := fun v I' B' wd' => RF I B wd I' B' wd' ∧ ∃ x : Int32, v = some (.int x) ∧ match res with
  | none => x < 0
  | some s' => 0 ≤ x ∧ B' 0 = s'
theorem DC.of {u : Nat} {res : CRes} {v : Option Value} {I' : Nat → Int32} {B' : Nat → Nat → Int32} {wd' : Int64} (h : ACT true u I B wd res v I' B' wd') (o : OKR res) : DC I B wd (cS res) v I' B' wd' := by
  unfold ACT at h
  cases res with
  | inl e => exact ⟨⟨h.2.1, fun j _ hj => h.2.2.1 j hj, h.2.2.2⟩, e, h.1, o⟩
  | inr x =>
    refine ⟨⟨fun j j7 j8 j9 => ?_, fun j j0 jj => ?_, h.2.2.2.1⟩, x.1, h.1, o, h.2.2.2.2.1⟩
    · by_cases e : j = 3
      · subst e; exact (h.2.2.2.2.2.1 rfl).1
      · exact h.2.1 j e j7 j8 j9
    · by_cases e : j = 1
      · subst e; exact (h.2.2.2.2.2.1 rfl).2
      · exact h.2.2.1 j j0 e jj
theorem m_doFolds_e (d : Nat) (h0 : xH) (Q : Option Value → (Nat → Int32) → (Nat → Nat → Int32) → Int64 → Prop) (x : Int32) (hx : x < 0) (k n : Nat) (hk : k ≤ 4) (hn : n ≤ 4) (h : xH) (hM : MR g h m A I B wd) (hF : MF m A h0 h) (h24 : I 24 = nI n) (hE : Q (some (.int x)) I B wd) :
    X g l mX3_doFolds d 0 0 (fun o h' => ∃ v I' B' wd', o = .inl v ∧ Q v I' B' wd' ∧ MR g h' m A I' B' wd' ∧ MF m A h0 h') 4 [some (.ref m), some (.int x), some (.int (nI k))] [] h 0 0 := by
  refine x_iload_n (M := mX3_doFolds) (pc := 4) dX3_doFolds_4 rfl ?_
  refine x_aload_n (M := mX3_doFolds) (pc := 5) dX3_doFolds_5 rfl ?_
  refine x_get (M := mX3_doFolds) (pc := 6) kcX3 24 rfl q2859 dX3_doFolds_6 hM.1 rfl ?_
  refine x_val (M := mX3_doFolds) (pc := 9) (h24) ?_
  first | with_reducible refine x_icmp_geN (M := mX3_doFolds) (pc := 9) 33 dX3_doFolds_9 (by decide) (by omega) (by omega) (fun c9 => ?_) (fun c9 => ?_) | refine x_icmp_ge (M := mX3_doFolds) (pc := 9) 33 dX3_doFolds_9 (by decide) (fun c9 => ?_) (fun c9 => ?_)
  · refine x_iload_n (M := mX3_doFolds) (pc := 33) dX3_doFolds_33 rfl ?_
    refine x_iret (M := mX3_doFolds) (pc := 34) dX3_doFolds_34 rfl (Nat.le_refl 0) (Nat.le_refl 0) ⟨_, _, _, _, rfl, ?_, hM, hF⟩
    exact hE
  · refine x_iload_n (M := mX3_doFolds) (pc := 12) dX3_doFolds_12 rfl ?_
    refine x_if_lt (M := mX3_doFolds) (pc := 13) 33 dX3_doFolds_13 (by decide) (fun r_c => ?_) (fun r_c => ?_)
    · refine x_iload_n (M := mX3_doFolds) (pc := 33) dX3_doFolds_33 rfl ?_
      refine x_iret (M := mX3_doFolds) (pc := 34) dX3_doFolds_34 rfl (Nat.le_refl 0) (Nat.le_refl 0) ⟨_, _, _, _, rfl, ?_, hM, hF⟩
      exact hE
    · exact absurd hx r_c
theorem m_doFolds_l (d u : Nat) (hu : u ≤ 5) (hd : 5 ≤ d) (I0 : Nat → Int32) (B0 : Nat → Nat → Int32) (w0 : Int64) (hU : I0 3 = nI u) (hr : I0 6 = bI true) (h0 : xH) (Q : Option Value → (Nat → Int32) → (Nat → Nat → Int32) → Int64 → Prop) (res : Option Row)
    (hE : ∀ v I' B' wd', DC I0 B0 w0 res v I' B' wd' → Q v I' B' wd') :
    ∀ (R : List Nat) (k : Nat) (x : Int32), 0 ≤ x → k + R.length ≤ 4 → ∀ h I B wd, RF I0 B0 w0 I B wd → WF (B 0) → res = c_fl (B 0) R → I0 24 = nI (k + R.length) → (∀ i, i < R.length → B0 23 (k + i) = nI (R.getD i 0)) → MR g h m A I B wd → MF m A h0 h →
    X g l mX3_doFolds d 0 0 (fun o h' => ∃ v I' B' wd', o = .inl v ∧ Q v I' B' wd' ∧ MR g h' m A I' B' wd' ∧ MF m A h0 h') 4 [some (.ref m), some (.int x), some (.int (nI k))] [] h 0 0 := by
  intro R
  induction R with
  | nil =>
    intro k x hx hk h I B wd hR hW he h24 hN hM hF
    have hk' : k ≤ 4 := hk
    have h24' : I 24 = nI k := (hR.1 24 (by omega) (by omega) (by omega)).trans h24
    refine x_iload_n (M := mX3_doFolds) (pc := 4) dX3_doFolds_4 rfl ?_
    refine x_aload_n (M := mX3_doFolds) (pc := 5) dX3_doFolds_5 rfl ?_
    refine x_get (M := mX3_doFolds) (pc := 6) kcX3 24 rfl q2859 dX3_doFolds_6 hM.1 rfl ?_
    refine x_val (M := mX3_doFolds) (pc := 9) (h24') ?_
    first | with_reducible refine x_icmp_geN (M := mX3_doFolds) (pc := 9) 33 dX3_doFolds_9 (by decide) (by omega) (by omega) (fun c9 => ?_) (fun c9 => ?_) | refine x_icmp_ge (M := mX3_doFolds) (pc := 9) 33 dX3_doFolds_9 (by decide) (fun c9 => ?_) (fun c9 => ?_)
    · refine x_iload_n (M := mX3_doFolds) (pc := 33) dX3_doFolds_33 rfl ?_
      refine x_iret (M := mX3_doFolds) (pc := 34) dX3_doFolds_34 rfl (Nat.le_refl 0) (Nat.le_refl 0) ⟨_, _, _, _, rfl, ?_, hM, hF⟩
      exact hE _ _ _ _ ⟨hR, x, rfl, by rw [he]; exact ⟨hx, rfl⟩⟩
    · omega
  | cons f R ih =>
    intro k x hx hk h I B wd hR hW he h24 hN hM hF
    have hk' : k + (R.length + 1) ≤ 4 := hk
    have h24' : I 24 = nI (k + (R.length + 1)) := (hR.1 24 (by omega) (by omega) (by omega)).trans h24
    have hU' : I 3 = nI u := (hR.1 3 (by omega) (by omega) (by omega)).trans hU
    have hr' : I 6 = bI true := (hR.1 6 (by omega) (by omega) (by omega)).trans hr
    have hv : B 23 k = nI f := by rw [hR.2.1 23 (by omega) (by omega)]; exact hN 0 (by show 0 < R.length + 1; omega)
    refine x_iload_n (M := mX3_doFolds) (pc := 4) dX3_doFolds_4 rfl ?_
    refine x_aload_n (M := mX3_doFolds) (pc := 5) dX3_doFolds_5 rfl ?_
    refine x_get (M := mX3_doFolds) (pc := 6) kcX3 24 rfl q2859 dX3_doFolds_6 hM.1 rfl ?_
    refine x_val (M := mX3_doFolds) (pc := 9) (h24') ?_
    first | with_reducible refine x_icmp_geN (M := mX3_doFolds) (pc := 9) 33 dX3_doFolds_9 (by decide) (by omega) (by omega) (fun c9 => ?_) (fun c9 => ?_) | refine x_icmp_ge (M := mX3_doFolds) (pc := 9) 33 dX3_doFolds_9 (by decide) (fun c9 => ?_) (fun c9 => ?_)
    · omega
    refine x_iload_n (M := mX3_doFolds) (pc := 12) dX3_doFolds_12 rfl ?_
    refine x_if_lt (M := mX3_doFolds) (pc := 13) 33 dX3_doFolds_13 (by decide) (fun r_c => ?_) (fun r_c => ?_)
    · exact absurd r_c (Int32.not_lt.mpr hx)
    refine x_aload_n (M := mX3_doFolds) (pc := 16) dX3_doFolds_16 rfl ?_
    refine x_aload_n (M := mX3_doFolds) (pc := 17) dX3_doFolds_17 rfl ?_
    refine x_get (M := mX3_doFolds) (pc := 18) kcX3 23 rfl q2858 dX3_doFolds_18 hM.1 rfl ?_
    refine x_iload_n (M := mX3_doFolds) (pc := 21) dX3_doFolds_21 rfl ?_
    refine xm_ialdV (M := mX3_doFolds) (pc := 22) hM dX3_doFolds_22 (hv) (by decide) (by first | decide | (simp only [mSz] <;> omega)) ?_
    skip
    refine x_V1 (M := mX3_doFolds) (pc := 23) (M' := mX3_fold) q3168 kVX3_fold dX3_doFolds_23 (m_fold (d - 1) u hu hU' true hr' (by omega) hW (nI f) h hM) (hM.is) (fun v_ h hq_ => ?_)
    obtain ⟨v_, I_, B_, wd_, hv_, hQ, hM_, hF_⟩ := hq_
    cases hv_
    replace hF := hF.tr hF_
    replace hM := hM_
    clear hM_ hF_
    have hK := k_fold hW (nI f)
    obtain ⟨hR2, y, rfl, hy⟩ := DC.of hQ (o_fold hW (nI f))
    rw [c_fl] at he
    generalize hc : c_fold (B 0) (nI f) = cr at *
    cases cr with
    | inl e =>
      refine x_istore1 (M := mX3_doFolds) (pc := 26) dX3_doFolds_26 ?_
      first | refine x_iinc2N (M := mX3_doFolds) (pc := 27) (c := 1) dX3_doFolds_27 oI1 ?_ | refine x_iinc2 (M := mX3_doFolds) (pc := 27) (c := 1) dX3_doFolds_27 (by decide) ?_
      refine x_goto (M := mX3_doFolds) (pc := 30) 4 dX3_doFolds_30 (by decide) ?_
      exact m_doFolds_e d h0 Q y hy (k + 1) (k + (R.length + 1)) (by omega) (by omega) _ hM hF ((hR2.1 24 (by omega) (by omega) (by omega)).trans h24') (hE _ _ _ _ ⟨hR.tr hR2, y, rfl, by rw [he]; exact hy⟩)
    | inr z =>
      refine x_istore1 (M := mX3_doFolds) (pc := 26) dX3_doFolds_26 ?_
      first | refine x_iinc2N (M := mX3_doFolds) (pc := 27) (c := 1) dX3_doFolds_27 oI1 ?_ | refine x_iinc2 (M := mX3_doFolds) (pc := 27) (c := 1) dX3_doFolds_27 (by decide) ?_
      refine x_goto (M := mX3_doFolds) (pc := 30) 4 dX3_doFolds_30 (by decide) ?_
      have hb : B_ 0 = z.2 := hy.2
      refine ih (k + 1) y hy.1 (by omega) _ _ _ _ (hR.tr hR2) (by rw [hb]; exact (hK z.1 z.2 rfl).1) (by rw [hb]; exact he) (by rw [h24]; congr 1; show k + (R.length + 1) = _; omega) (fun i hi => ?_) hM hF
      rw [show k + 1 + i = k + (i + 1) by omega]
      exact hN (i + 1) (by show i + 1 < R.length + 1; omega)
theorem m_doFolds (d u : Nat) (hu : u ≤ 5) (hU : I 3 = nI u) (hr : I 6 = bI true) (hd : 5 ≤ d) (hW : WF (B 0)) (L : List Nat) (hL : L.length ≤ 4) (h24 : I 24 = nI L.length) (hN : ∀ k, k < L.length → B 23 k = nI (L.getD k 0)) : MC g l mX3_doFolds d [] m A I B wd (DC I B wd (c_fl (B 0) L)) := by
  intro h hM
  have hF : MF m A h h := MF.rf
  refine Ct.of [some (.ref m), none, none] (by decide +kernel) rfl (Nat.le_of_ble_eq_true rfl) rfl rfl ?_
  refine x_iconst (M := mX3_doFolds) (pc := 0) (v := nI 0) dX3_doFolds_0 (by decide) ?_
  refine x_istore1 (M := mX3_doFolds) (pc := 1) dX3_doFolds_1 ?_
  refine x_iconst (M := mX3_doFolds) (pc := 2) (v := nI 0) dX3_doFolds_2 (by decide) ?_
  refine x_istore2 (M := mX3_doFolds) (pc := 3) dX3_doFolds_3 ?_
  exact m_doFolds_l d u hu hd I B wd hU hr h _ _ (fun _ _ _ _ q => q) L 0 0 (by decide) (by omega) h I B wd RF.rf hW rfl (by rw [Nat.zero_add]; exact h24) (fun i hi => by rw [Nat.zero_add]; exact hN i hi) hM hF
theorem DC.to {r r' : Option Row} {v : Option Value} {I' : Nat → Int32} {B' : Nat → Nat → Int32} {wd' : Int64} (h : DC I B wd r v I' B' wd') (e : r' = r) : DC I B wd r' v I' B' wd' := e ▸ h
theorem m_doCommand (d u : Nat) (hu : u ≤ 5) (hU : I 3 = nI u) (hr : I 6 = bI true) (hd : 6 ≤ d) (hW : WF (B 0)) (w : Int64) (L : List Nat) (wh : Bool) (hL : L.length ≤ 4) (hN : ∀ k, k < L.length → B 23 k = nI (L.getD k 0)) (hs : w = 20456901 → L.getD 0 0 < 2 ^ 31) (h25 : I 25 = bI wh) (h24 : w = 212356 → I 24 = nI L.length) (l1 : w ≠ 719535492 → 1 ≤ L.length) (l2 : w = 20190388 → 2 ≤ L.length) (l3 : w = 474757 → 3 ≤ L.length) : MC g l mX3_doCommand d [.long w] m A I B wd (DC I B wd (t_do (B 0) w L wh)) := by
  intro h hM
  have hF : MF m A h h := MF.rf
  refine Ct.of [some (.ref m), some (.long w), none] (by decide +kernel) rfl (Nat.le_of_ble_eq_true rfl) rfl rfl ?_
  refine x_lload_n (M := mX3_doCommand) (pc := 0) dX3_doCommand_0 rfl ?_
  refine x_ldc2 (M := mX3_doCommand) (pc := 1) dX3_doCommand_1 q3133 ?_
  refine x_lcmp (M := mX3_doCommand) (pc := 4) dX3_doCommand_4 ?_
  refine x_if_ne (M := mX3_doCommand) (pc := 5) 25 dX3_doCommand_5 (by decide) (fun r_1 => ?_) (fun r_1 => ?_)
  rotate_left
  · rw [lg_eq] at r_1
    refine x_aload_n (M := mX3_doCommand) (pc := 8) dX3_doCommand_8 rfl ?_
    refine x_aload_n (M := mX3_doCommand) (pc := 9) dX3_doCommand_9 rfl ?_
    refine x_get (M := mX3_doCommand) (pc := 10) kcX3 23 rfl q2858 dX3_doCommand_10 hM.1 rfl ?_
    refine x_iconst (M := mX3_doCommand) (pc := 13) (v := nI 0) dX3_doCommand_13 (by decide) ?_
    refine xm_ialdV (M := mX3_doCommand) (pc := 14) hM dX3_doCommand_14 (hN 0 (by have := l2 r_1; omega)) (by decide) (by first | decide | (simp only [mSz] <;> omega)) ?_
    refine x_aload_n (M := mX3_doCommand) (pc := 15) dX3_doCommand_15 rfl ?_
    refine x_get (M := mX3_doCommand) (pc := 16) kcX3 23 rfl q2858 dX3_doCommand_16 hM.1 rfl ?_
    refine x_iconst (M := mX3_doCommand) (pc := 19) (v := nI 1) dX3_doCommand_19 (by decide) ?_
    refine xm_ialdV (M := mX3_doCommand) (pc := 20) hM dX3_doCommand_20 (hN 1 (by have := l2 r_1; omega)) (by decide) (by first | decide | (simp only [mSz] <;> omega)) ?_
    refine x_V2 (M := mX3_doCommand) (pc := 21) (M' := mX3_setSheet) q3163 kVX3_setSheet dX3_doCommand_21 (m_setSheet (d - 1) u hu hU true hr (by omega) _ _ h hM) (hM.is) (fun v_ h hq_ => ?_)
    obtain ⟨v_, I_, B_, wd_, hv_, hQ, hM_, hF_⟩ := hq_
    cases hv_
    replace hF := hF.tr hF_
    replace hM := hM_
    clear hM_ hF_
    obtain ⟨hR, x, rfl, hx⟩ := DC.of hQ (o_setSheet _ _ _)
    refine x_iret (M := mX3_doCommand) (pc := 24) dX3_doCommand_24 rfl (Nat.le_refl 0) (Nat.le_refl 0) ⟨_, _, _, _, rfl, ?_, hM, hF⟩
    exact DC.to ⟨hR, x, rfl, hx⟩ (by unfold t_do; rw [if_pos r_1])
  rw [lg_eq] at r_1
  refine x_lload_n (M := mX3_doCommand) (pc := 25) dX3_doCommand_25 rfl ?_
  refine x_ldc2 (M := mX3_doCommand) (pc := 26) dX3_doCommand_26 q3134 ?_
  refine x_lcmp (M := mX3_doCommand) (pc := 29) dX3_doCommand_29 ?_
  refine x_if_ne (M := mX3_doCommand) (pc := 30) 38 dX3_doCommand_30 (by decide) (fun r_2 => ?_) (fun r_2 => ?_)
  rotate_left
  · rw [lg_eq] at r_2
    refine x_aload_n (M := mX3_doCommand) (pc := 33) dX3_doCommand_33 rfl ?_
    refine x_V0 (M := mX3_doCommand) (pc := 34) (M' := mX3_doFolds) q3164 kVX3_doFolds dX3_doCommand_34 (m_doFolds (d - 1) u hu hU hr (by omega) hW L hL (h24 r_2) hN h hM) (hM.is) (fun v_ h hq_ => ?_)
    obtain ⟨v_, I_, B_, wd_, hv_, hQ, hM_, hF_⟩ := hq_
    cases hv_
    replace hF := hF.tr hF_
    replace hM := hM_
    clear hM_ hF_
    obtain ⟨hR, x, rfl, hx⟩ := hQ
    refine x_iret (M := mX3_doCommand) (pc := 37) dX3_doCommand_37 rfl (Nat.le_refl 0) (Nat.le_refl 0) ⟨_, _, _, _, rfl, ?_, hM, hF⟩
    exact DC.to ⟨hR, x, rfl, hx⟩ (by unfold t_do; rw [if_neg r_1, if_pos r_2])
  rw [lg_eq] at r_2
  refine x_lload_n (M := mX3_doCommand) (pc := 38) dX3_doCommand_38 rfl ?_
  refine x_ldc2 (M := mX3_doCommand) (pc := 39) dX3_doCommand_39 q3135 ?_
  refine x_lcmp (M := mX3_doCommand) (pc := 42) dX3_doCommand_42 ?_
  refine x_if_ne (M := mX3_doCommand) (pc := 43) 51 dX3_doCommand_43 (by decide) (fun r_3 => ?_) (fun r_3 => ?_)
  rotate_left
  · rw [lg_eq] at r_3
    refine x_aload_n (M := mX3_doCommand) (pc := 46) dX3_doCommand_46 rfl ?_
    refine x_V0 (M := mX3_doCommand) (pc := 47) (M' := mX3_unfold) q3169 kVX3_unfold dX3_doCommand_47 (m_unfold (d - 1) u hu hU true hr (by omega) hW h hM) (hM.is) (fun v_ h hq_ => ?_)
    obtain ⟨v_, I_, B_, wd_, hv_, hQ, hM_, hF_⟩ := hq_
    cases hv_
    replace hF := hF.tr hF_
    replace hM := hM_
    clear hM_ hF_
    obtain ⟨hR, x, rfl, hx⟩ := DC.of hQ (o_unfold hW)
    refine x_iret (M := mX3_doCommand) (pc := 50) dX3_doCommand_50 rfl (Nat.le_refl 0) (Nat.le_refl 0) ⟨_, _, _, _, rfl, ?_, hM, hF⟩
    exact DC.to ⟨hR, x, rfl, hx⟩ (by unfold t_do; rw [if_neg r_1, if_neg r_2, if_pos r_3])
  rw [lg_eq] at r_3
  have hv0 := hN 0 (by have := l1 r_3; omega)
  refine x_lload_n (M := mX3_doCommand) (pc := 51) dX3_doCommand_51 rfl ?_
  refine x_ldc2 (M := mX3_doCommand) (pc := 52) dX3_doCommand_52 q3136 ?_
  refine x_lcmp (M := mX3_doCommand) (pc := 55) dX3_doCommand_55 ?_
  refine x_if_ne (M := mX3_doCommand) (pc := 56) 78 dX3_doCommand_56 (by decide) (fun r_4 => ?_) (fun r_4 => ?_)
  rotate_left
  · rw [lg_eq] at r_4
    have hb0 := hs r_4
    refine x_aload_n (M := mX3_doCommand) (pc := 59) dX3_doCommand_59 rfl ?_
    refine x_joinV 74 ((if L.getD 0 0 = 0 then 0 else 1 : Int32)) (fun J => ?_) ?_
    · refine x_aload_n (M := mX3_doCommand) (pc := 60) dX3_doCommand_60 rfl ?_
      refine x_get (M := mX3_doCommand) (pc := 61) kcX3 23 rfl q2858 dX3_doCommand_61 hM.1 rfl ?_
      refine x_iconst (M := mX3_doCommand) (pc := 64) (v := nI 0) dX3_doCommand_64 (by decide) ?_
      refine xm_ialdV (M := mX3_doCommand) (pc := 65) hM dX3_doCommand_65 (hv0) (by decide) (by first | decide | (simp only [mSz] <;> omega)) ?_
      first | with_reducible refine x_ifB_ne (M := mX3_doCommand) (pc := 66) 73 dX3_doCommand_66 (by decide) (fun c66 => ?_) (fun c66 => ?_) | with_reducible refine x_if_neN (M := mX3_doCommand) (pc := 66) 73 dX3_doCommand_66 (by decide) (by omega) (fun c66 => ?_) (fun c66 => ?_) | refine x_if_ne (M := mX3_doCommand) (pc := 66) 73 dX3_doCommand_66 (by decide) (fun c66 => ?_) (fun c66 => ?_)
      · refine x_iconst (M := mX3_doCommand) (pc := 73) (v := nI 1) dX3_doCommand_73 (by decide) ?_
        first | exact J 0 (by rw [if_pos c66]) | exact J 1 (by rw [if_neg c66])
      · refine x_iconst (M := mX3_doCommand) (pc := 69) (v := nI 0) dX3_doCommand_69 (by decide) ?_
        refine x_goto (M := mX3_doCommand) (pc := 70) 74 dX3_doCommand_70 (by decide) ?_
        first | exact J 0 (by rw [if_pos c66]) | exact J 1 (by rw [if_neg c66])
    refine x_V1 (M := mX3_doCommand) (pc := 74) (M' := mX3_setSpine) q3170 kVX3_setSpine dX3_doCommand_74 (m_setSpine (d - 1) u hu hU true hr (by omega) _ h hM) (hM.is) (fun v_ h hq_ => ?_)
    obtain ⟨v_, I_, B_, wd_, hv_, hQ, hM_, hF_⟩ := hq_
    cases hv_
    replace hF := hF.tr hF_
    replace hM := hM_
    clear hM_ hF_
    obtain ⟨hR, x, rfl, hx⟩ := DC.of hQ (o_setSpine hW _)
    refine x_iret (M := mX3_doCommand) (pc := 77) dX3_doCommand_77 rfl (Nat.le_refl 0) (Nat.le_refl 0) ⟨_, _, _, _, rfl, ?_, hM, hF⟩
    exact DC.to ⟨hR, x, rfl, hx⟩ (by unfold t_do; rw [if_neg r_1, if_neg r_2, if_neg r_3, if_pos r_4])
  rw [lg_eq] at r_4
  refine x_lload_n (M := mX3_doCommand) (pc := 78) dX3_doCommand_78 rfl ?_
  refine x_ldc2 (M := mX3_doCommand) (pc := 79) dX3_doCommand_79 q3137 ?_
  refine x_lcmp (M := mX3_doCommand) (pc := 82) dX3_doCommand_82 ?_
  refine x_if_ne (M := mX3_doCommand) (pc := 83) 97 dX3_doCommand_83 (by decide) (fun r_5 => ?_) (fun r_5 => ?_)
  rotate_left
  · rw [lg_eq] at r_5
    refine x_aload_n (M := mX3_doCommand) (pc := 86) dX3_doCommand_86 rfl ?_
    refine x_aload_n (M := mX3_doCommand) (pc := 87) dX3_doCommand_87 rfl ?_
    refine x_get (M := mX3_doCommand) (pc := 88) kcX3 23 rfl q2858 dX3_doCommand_88 hM.1 rfl ?_
    refine x_iconst (M := mX3_doCommand) (pc := 91) (v := nI 0) dX3_doCommand_91 (by decide) ?_
    refine xm_ialdV (M := mX3_doCommand) (pc := 92) hM dX3_doCommand_92 (hv0) (by decide) (by first | decide | (simp only [mSz] <;> omega)) ?_
    refine x_V1 (M := mX3_doCommand) (pc := 93) (M' := mX3_printAll) q3171 kVX3_printAll dX3_doCommand_93 (m_printAll (d - 1) u hu hU true hr (by omega) hW _ h hM) (hM.is) (fun v_ h hq_ => ?_)
    obtain ⟨v_, I_, B_, wd_, hv_, hQ, hM_, hF_⟩ := hq_
    cases hv_
    replace hF := hF.tr hF_
    replace hM := hM_
    clear hM_ hF_
    obtain ⟨hR, x, rfl, hx⟩ := DC.of hQ (o_printAll hW _)
    refine x_iret (M := mX3_doCommand) (pc := 96) dX3_doCommand_96 rfl (Nat.le_refl 0) (Nat.le_refl 0) ⟨_, _, _, _, rfl, ?_, hM, hF⟩
    exact DC.to ⟨hR, x, rfl, hx⟩ (by unfold t_do; rw [if_neg r_1, if_neg r_2, if_neg r_3, if_neg r_4, if_pos r_5])
  rw [lg_eq] at r_5
  refine x_lload_n (M := mX3_doCommand) (pc := 97) dX3_doCommand_97 rfl ?_
  refine x_ldc2 (M := mX3_doCommand) (pc := 98) dX3_doCommand_98 q3138 ?_
  refine x_lcmp (M := mX3_doCommand) (pc := 101) dX3_doCommand_101 ?_
  refine x_if_ne (M := mX3_doCommand) (pc := 102) 116 dX3_doCommand_102 (by decide) (fun r_6 => ?_) (fun r_6 => ?_)
  rotate_left
  · rw [lg_eq] at r_6
    refine x_aload_n (M := mX3_doCommand) (pc := 105) dX3_doCommand_105 rfl ?_
    refine x_aload_n (M := mX3_doCommand) (pc := 106) dX3_doCommand_106 rfl ?_
    refine x_get (M := mX3_doCommand) (pc := 107) kcX3 23 rfl q2858 dX3_doCommand_107 hM.1 rfl ?_
    refine x_iconst (M := mX3_doCommand) (pc := 110) (v := nI 0) dX3_doCommand_110 (by decide) ?_
    refine xm_ialdV (M := mX3_doCommand) (pc := 111) hM dX3_doCommand_111 (hv0) (by decide) (by first | decide | (simp only [mSz] <;> omega)) ?_
    refine x_V1 (M := mX3_doCommand) (pc := 112) (M' := mX3_cut) q3172 kVX3_cut dX3_doCommand_112 (m_cut (d - 1) u hu hU true hr (by omega) hW _ h hM) (hM.is) (fun v_ h hq_ => ?_)
    obtain ⟨v_, I_, B_, wd_, hv_, hQ, hM_, hF_⟩ := hq_
    cases hv_
    replace hF := hF.tr hF_
    replace hM := hM_
    clear hM_ hF_
    obtain ⟨hR, x, rfl, hx⟩ := DC.of hQ (o_cut hW _)
    refine x_iret (M := mX3_doCommand) (pc := 115) dX3_doCommand_115 rfl (Nat.le_refl 0) (Nat.le_refl 0) ⟨_, _, _, _, rfl, ?_, hM, hF⟩
    exact DC.to ⟨hR, x, rfl, hx⟩ (by unfold t_do; rw [if_neg r_1, if_neg r_2, if_neg r_3, if_neg r_4, if_neg r_5, if_pos r_6])
  rw [lg_eq] at r_6
  refine x_lload_n (M := mX3_doCommand) (pc := 116) dX3_doCommand_116 rfl ?_
  refine x_ldc2 (M := mX3_doCommand) (pc := 117) dX3_doCommand_117 q3139 ?_
  refine x_lcmp (M := mX3_doCommand) (pc := 120) dX3_doCommand_120 ?_
  refine x_if_ne (M := mX3_doCommand) (pc := 121) 135 dX3_doCommand_121 (by decide) (fun r_7 => ?_) (fun r_7 => ?_)
  rotate_left
  · rw [lg_eq] at r_7
    refine x_aload_n (M := mX3_doCommand) (pc := 124) dX3_doCommand_124 rfl ?_
    refine x_aload_n (M := mX3_doCommand) (pc := 125) dX3_doCommand_125 rfl ?_
    refine x_get (M := mX3_doCommand) (pc := 126) kcX3 23 rfl q2858 dX3_doCommand_126 hM.1 rfl ?_
    refine x_iconst (M := mX3_doCommand) (pc := 129) (v := nI 0) dX3_doCommand_129 (by decide) ?_
    refine xm_ialdV (M := mX3_doCommand) (pc := 130) hM dX3_doCommand_130 (hv0) (by decide) (by first | decide | (simp only [mSz] <;> omega)) ?_
    refine x_V1 (M := mX3_doCommand) (pc := 131) (M' := mX3_staple) q3173 kVX3_staple dX3_doCommand_131 (m_staple (d - 1) u hu hU true hr (by omega) hW _ h hM) (hM.is) (fun v_ h hq_ => ?_)
    obtain ⟨v_, I_, B_, wd_, hv_, hQ, hM_, hF_⟩ := hq_
    cases hv_
    replace hF := hF.tr hF_
    replace hM := hM_
    clear hM_ hF_
    obtain ⟨hR, x, rfl, hx⟩ := DC.of hQ (o_staple hW _)
    refine x_iret (M := mX3_doCommand) (pc := 134) dX3_doCommand_134 rfl (Nat.le_refl 0) (Nat.le_refl 0) ⟨_, _, _, _, rfl, ?_, hM, hF⟩
    exact DC.to ⟨hR, x, rfl, hx⟩ (by unfold t_do; rw [if_neg r_1, if_neg r_2, if_neg r_3, if_neg r_4, if_neg r_5, if_neg r_6, if_pos r_7])
  rw [lg_eq] at r_7
  refine x_lload_n (M := mX3_doCommand) (pc := 135) dX3_doCommand_135 rfl ?_
  refine x_ldc2 (M := mX3_doCommand) (pc := 136) dX3_doCommand_136 q3140 ?_
  refine x_lcmp (M := mX3_doCommand) (pc := 139) dX3_doCommand_139 ?_
  refine x_if_ne (M := mX3_doCommand) (pc := 140) 180 dX3_doCommand_140 (by decide) (fun r_8 => ?_) (fun r_8 => ?_)
  rotate_left
  · rw [lg_eq] at r_8
    have := l3 r_8
    refine x_aload_n (M := mX3_doCommand) (pc := 143) dX3_doCommand_143 rfl ?_
    refine x_aload_n (M := mX3_doCommand) (pc := 144) dX3_doCommand_144 rfl ?_
    refine x_get (M := mX3_doCommand) (pc := 145) kcX3 23 rfl q2858 dX3_doCommand_145 hM.1 rfl ?_
    refine x_iconst (M := mX3_doCommand) (pc := 148) (v := nI 0) dX3_doCommand_148 (by decide) ?_
    refine xm_ialdV (M := mX3_doCommand) (pc := 149) hM dX3_doCommand_149 (hv0) (by decide) (by first | decide | (simp only [mSz] <;> omega)) ?_
    refine x_aload_n (M := mX3_doCommand) (pc := 150) dX3_doCommand_150 rfl ?_
    refine x_get (M := mX3_doCommand) (pc := 151) kcX3 23 rfl q2858 dX3_doCommand_151 hM.1 rfl ?_
    refine x_iconst (M := mX3_doCommand) (pc := 154) (v := nI 1) dX3_doCommand_154 (by decide) ?_
    refine xm_ialdV (M := mX3_doCommand) (pc := 155) hM dX3_doCommand_155 (hN 1 (by omega)) (by decide) (by first | decide | (simp only [mSz] <;> omega)) ?_
    refine x_aload_n (M := mX3_doCommand) (pc := 156) dX3_doCommand_156 rfl ?_
    refine x_get (M := mX3_doCommand) (pc := 157) kcX3 23 rfl q2858 dX3_doCommand_157 hM.1 rfl ?_
    refine x_iconst (M := mX3_doCommand) (pc := 160) (v := nI 2) dX3_doCommand_160 (by decide) ?_
    refine xm_ialdV (M := mX3_doCommand) (pc := 161) hM dX3_doCommand_161 (hN 2 (by omega)) (by decide) (by first | decide | (simp only [mSz] <;> omega)) ?_
    refine x_joinB 174 (wh) (fun J => ?_) ?_
    · refine x_aload_n (M := mX3_doCommand) (pc := 162) dX3_doCommand_162 rfl ?_
      refine x_get (M := mX3_doCommand) (pc := 163) kcX3 25 rfl q2860 dX3_doCommand_163 hM.1 rfl ?_
      refine x_val (M := mX3_doCommand) (pc := 166) (h25) ?_
      first | with_reducible refine x_ifB_eq (M := mX3_doCommand) (pc := 166) 173 dX3_doCommand_166 (by decide) (fun c166 => ?_) (fun c166 => ?_) | with_reducible refine x_if_eqN (M := mX3_doCommand) (pc := 166) 173 dX3_doCommand_166 (by decide) (by omega) (fun c166 => ?_) (fun c166 => ?_) | refine x_if_eq (M := mX3_doCommand) (pc := 166) 173 dX3_doCommand_166 (by decide) (fun c166 => ?_) (fun c166 => ?_)
      · refine x_iconst (M := mX3_doCommand) (pc := 173) (v := nI 0) dX3_doCommand_173 (by decide) ?_
        first | exact J true c166.symm | exact J false c166.symm
      · refine x_iconst (M := mX3_doCommand) (pc := 169) (v := nI 1) dX3_doCommand_169 (by decide) ?_
        refine x_goto (M := mX3_doCommand) (pc := 170) 174 dX3_doCommand_170 (by decide) ?_
        first | exact J true c166.symm | exact J false c166.symm
    refine x_V4 (M := mX3_doCommand) (pc := 174) (M' := mX3_addNote) q3174 kVX3_addNote dX3_doCommand_174 (m_addNote (d - 1) u hu hU true hr (by omega) hW _ _ _ _ h hM) (hM.is) (fun v_ h hq_ => ?_)
    obtain ⟨v_, I_, B_, wd_, hv_, hQ, hM_, hF_⟩ := hq_
    cases hv_
    replace hF := hF.tr hF_
    replace hM := hM_
    clear hM_ hF_
    obtain ⟨hR, x, rfl, hx⟩ := DC.of hQ (o_addNote hW _ _ _ _)
    refine x_goto (M := mX3_doCommand) (pc := 177) 190 dX3_doCommand_177 (by decide) ?_
    refine x_iret (M := mX3_doCommand) (pc := 190) dX3_doCommand_190 rfl (Nat.le_refl 0) (Nat.le_refl 0) ⟨_, _, _, _, rfl, ?_, hM, hF⟩
    exact DC.to ⟨hR, x, rfl, hx⟩ (by unfold t_do; rw [if_neg r_1, if_neg r_2, if_neg r_3, if_neg r_4, if_neg r_5, if_neg r_6, if_neg r_7, if_pos r_8])
  rw [lg_eq] at r_8
  refine x_aload_n (M := mX3_doCommand) (pc := 180) dX3_doCommand_180 rfl ?_
  refine x_aload_n (M := mX3_doCommand) (pc := 181) dX3_doCommand_181 rfl ?_
  refine x_get (M := mX3_doCommand) (pc := 182) kcX3 23 rfl q2858 dX3_doCommand_182 hM.1 rfl ?_
  refine x_iconst (M := mX3_doCommand) (pc := 185) (v := nI 0) dX3_doCommand_185 (by decide) ?_
  refine xm_ialdV (M := mX3_doCommand) (pc := 186) hM dX3_doCommand_186 (hv0) (by decide) (by first | decide | (simp only [mSz] <;> omega)) ?_
  refine x_V1 (M := mX3_doCommand) (pc := 187) (M' := mX3_setLines) q3175 kVX3_setLines dX3_doCommand_187 (m_setLines (d - 1) u hu hU true hr (by omega) _ h hM) (hM.is) (fun v_ h hq_ => ?_)
  obtain ⟨v_, I_, B_, wd_, hv_, hQ, hM_, hF_⟩ := hq_
  cases hv_
  replace hF := hF.tr hF_
  replace hM := hM_
  clear hM_ hF_
  obtain ⟨hR, x, rfl, hx⟩ := DC.of hQ (o_setLines hW _)
  refine x_iret (M := mX3_doCommand) (pc := 190) dX3_doCommand_190 rfl (Nat.le_refl 0) (Nat.le_refl 0) ⟨_, _, _, _, rfl, ?_, hM, hF⟩
  exact DC.to ⟨hR, x, rfl, hx⟩ (by unfold t_do; rw [if_neg r_1, if_neg r_2, if_neg r_3, if_neg r_4, if_neg r_5, if_neg r_6, if_neg r_7, if_neg r_8])
end MODELU

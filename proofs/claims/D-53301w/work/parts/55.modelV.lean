section MODELV
set_option maxRecDepth 100000
theorem t_b_le {tx : Nat → Nat} {len p : Nat} (hp : p ≤ len) : p ≤ t_b tx len p ∧ t_b tx len p ≤ len := by
  unfold t_b t_end
  have := fstN_le (fun k => !isS (tx k)) (len - p) p
  omega
theorem t_end_gt {P : Nat → Bool} {tx : Nat → Nat} {len b : Nat} (hb : b < len) (h : P (tx b) = true) : b < t_end P tx len b := by
  unfold t_end
  obtain ⟨q, hq⟩ : ∃ q, len - b = q + 1 := ⟨len - b - 1, by omega⟩
  rw [hq, fstN, if_neg (by rw [h]; decide)]
  have := fstN_le (fun k => !P (tx k)) q (b + 1)
  omega
theorem t_end_ge {P : Nat → Bool} {tx : Nat → Nat} {len b : Nat} : b ≤ t_end P tx len b := by
  unfold t_end
  have := fstN_le (fun k => !P (tx k)) (len - b) b
  omega
theorem t_sp_ge {tx : Nat → Nat} {len p : Nat} (hp : p ≤ len) : p ≤ t_sp tx len p := by
  have h := t_b_le (tx := tx) hp
  unfold t_sp
  repeat' split
  all_goals first | omega | exact Nat.le_trans h.1 t_end_ge
theorem t_sp_gt {tx : Nat → Nat} {len p : Nat} (hp : p ≤ len) (hk : t_kd tx len p ≠ 0) : p < t_sp tx len p := by
  have h := t_b_le (tx := tx) hp
  have hb : t_b tx len p ≠ len := fun e => hk (by unfold t_kd; rw [if_pos e])
  unfold t_sp
  rw [if_neg hb]
  split
  · rename_i q; exact Nat.lt_of_le_of_lt h.1 (t_end_gt (by omega) q)
  · split
    · rename_i q; exact Nat.lt_of_le_of_lt h.1 (t_end_gt (by omega) q)
    · omega
theorem t_ns_ge {tx : Nat → Nat} {len : Nat} : ∀ q p, p ≤ len → p ≤ (t_ns tx len q p).2 ∧ (t_ns tx len q p).2 ≤ len ∧ (t_ns tx len q p).1.length ≤ q
  | 0, p, hp => ⟨Nat.le_refl _, hp, Nat.le_refl _⟩
  | q + 1, p, hp => by
    rw [t_ns]
    split
    · have h1 := t_sp_ge (tx := tx) hp
      have h2 := t_sp_le (tx := tx) hp
      have h3 := t_ns_ge (tx := tx) q (t_sp tx len p) h2
      refine ⟨by show p ≤ (t_ns tx len q (t_sp tx len p)).2; omega, h3.2.1, ?_⟩
      show (t_ns tx len q (t_sp tx len p)).1.length + 1 ≤ q + 1
      omega
    · exact ⟨Nat.le_refl _, hp, Nat.zero_le _⟩
theorem t_rn_ge {tx : Nat → Nat} {len p : Nat} {w : Int64} (hp : p ≤ len) : p ≤ (t_rn tx len w p).2.2.2 ∧ (t_rn tx len w p).2.2.2 ≤ len := by
  have h1 := t_sp_ge (tx := tx) hp
  have h2 := t_sp_le (tx := tx) hp
  have hE : ∀ c, p ≤ (t_rnE tx len c p).2.2.2 ∧ (t_rnE tx len c p).2.2.2 ≤ len := fun c => by
    unfold t_rnE
    split
    · exact ⟨Nat.le_refl _, hp⟩
    · split
      · show p ≤ t_eg tx len p ∧ t_eg tx len p ≤ len
        unfold t_eg
        split
        · exact ⟨h1, h2⟩
        · exact ⟨Nat.le_refl _, hp⟩
      · exact ⟨Nat.le_refl _, hp⟩
  unfold t_rn
  split
  · exact hE _
  split
  · exact hE _
  split
  · have h3 := t_ns_ge (tx := tx) 3 p hp
    have h4 := t_sp_ge (tx := tx) h3.2.1
    have h5 := t_sp_le (tx := tx) h3.2.1
    show p ≤ (if t_rnW tx len p then _ else _) ∧ (if t_rnW tx len p then _ else _) ≤ len
    split
    · omega
    · exact ⟨h3.1, h3.2.1⟩
  split
  · have h3 := t_ns_ge (tx := tx) 4 p hp
    exact ⟨h3.1, h3.2.1⟩
  · have h3 := t_ns_ge (tx := tx) (t_cn w) p hp
    exact ⟨h3.1, h3.2.1⟩
theorem t_rnE_t {tx : Nat → Nat} {len p : Nat} {c : Bool} (h : (t_rnE tx len c p).1 = true) : ∃ e, e < 4 ∧ (t_rnE tx len c p).2.1 = [e] := by
  unfold t_rnE at h ⊢
  split at h
  · cases h
  · rename_i e he
    have he4 : e < 4 := by unfold t_ed at he; (repeat' split at he) <;> first | (cases he; omega) | cases he
    split at h
    · rename_i hc; rw [if_pos hc]; exact ⟨e, he4, rfl⟩
    · cases h
theorem t_rn_len {tx : Nat → Nat} {len p : Nat} {w : Int64} (hp : p ≤ len) (h : (t_rn tx len w p).1 = true) : (t_rn tx len w p).2.1.length ≤ 4 ∧ (w ≠ 719535492 → 1 ≤ (t_rn tx len w p).2.1.length) ∧ (w = 20190388 → 2 ≤ (t_rn tx len w p).2.1.length) ∧ (w = 474757 → 3 ≤ (t_rn tx len w p).2.1.length) ∧ (w = 20456901 → (t_rn tx len w p).2.1.getD 0 0 < 2 ^ 31) := by
  unfold t_rn at h ⊢
  split at h
  · rename_i hw
    subst hw
    rw [if_pos rfl]
    obtain ⟨e, he, hl⟩ := t_rnE_t h
    rw [hl]
    exact ⟨Nat.le_of_ble_eq_true rfl, fun _ => Nat.le_of_ble_eq_true rfl, fun z => absurd z (by decide), fun z => absurd z (by decide), fun z => absurd z (by decide)⟩
  rename_i n1
  rw [if_neg n1]
  split at h
  · rename_i hw
    subst hw
    rw [if_pos rfl]
    obtain ⟨e, he, hl⟩ := t_rnE_t h
    rw [hl]
    exact ⟨Nat.le_of_ble_eq_true rfl, fun _ => Nat.le_of_ble_eq_true rfl, fun z => absurd z (by decide), fun z => absurd z (by decide), fun _ => by show e < 2 ^ 31; omega⟩
  rename_i n2
  rw [if_neg n2]
  split at h
  · rename_i hw
    subst hw
    rw [if_pos rfl]
    have h3 := (t_ns_ge (tx := tx) 3 p hp).2.2
    have h4 : 3 ≤ (t_ns tx len 3 p).1.length := of_decide_eq_true h
    exact ⟨Nat.le_trans h3 (by omega), fun _ => Nat.le_trans (by omega) h4, fun z => absurd z (by decide), fun _ => h4, fun z => absurd z (by decide)⟩
  rename_i n3
  rw [if_neg n3]
  split at h
  · rename_i hw
    subst hw
    rw [if_pos rfl]
    have h3 := (t_ns_ge (tx := tx) 4 p hp).2.2
    have h4 : 1 ≤ (t_ns tx len 4 p).1.length := of_decide_eq_true h
    exact ⟨h3, fun _ => h4, fun z => absurd z (by decide), fun z => absurd z (by decide), fun z => absurd z (by decide)⟩
  rename_i n4
  rw [if_neg n4]
  have h3 := (t_ns_ge (tx := tx) (t_cn w) p hp).2.2
  have h4 : t_cn w ≤ (t_ns tx len (t_cn w) p).1.length := of_decide_eq_true h
  have hc : t_cn w ≤ 4 := by
    unfold t_cn
    repeat' split
    all_goals omega
  refine ⟨Nat.le_trans h3 hc, fun z => Nat.le_trans ?_ h4, fun z => Nat.le_trans ?_ h4, fun z => absurd z n3, fun z => absurd z n2⟩
  · unfold t_cn
    rw [if_neg z]
    split <;> omega
  · unfold t_cn; rw [if_pos z]; exact Nat.le_refl _
def t_cmd (tx : Nat → Nat) (len p : Nat) : Int64 := if t_kd tx len p = 1 then t_wo tx len p else 0
/-- one command of a program: where it fails, or the row then and where the text goes on -/
def t_st (tx : Nat → Nat) (len : Nat) (s : Row) (p : Nat) : Nat ⊕ (Row × Nat) :=
  if isCmd (t_cmd tx len p) = false then .inl (t_b tx len p)
  else if ((t_rn tx len (t_cmd tx len p) (t_sp tx len p)).1 && decide (t_kd tx len (t_rn tx len (t_cmd tx len p) (t_sp tx len p)).2.2.2 = 3)) = false then .inl (t_b tx len (t_rn tx len (t_cmd tx len p) (t_sp tx len p)).2.2.2)
  else match t_do s (t_cmd tx len p) (t_rn tx len (t_cmd tx len p) (t_sp tx len p)).2.1 (t_rn tx len (t_cmd tx len p) (t_sp tx len p)).2.2.1 with
    | none => .inl (t_b tx len p)
    | some s' => .inr (s', t_sp tx len (t_rn tx len (t_cmd tx len p) (t_sp tx len p)).2.2.2)
def t_all (tx : Nat → Nat) (len : Nat) : Nat → Row → Nat → Nat → Nat ⊕ (Nat × Row)
  | 0, s, _, n => .inr (n, s)
  | f + 1, s, p, n => if t_kd tx len p = 0 then .inr (n, s) else match t_st tx len s p with
    | .inl e => .inl e
    | .inr x => t_all tx len f x.1 x.2 (n + 1)
variable {g : xG} {l : Launch} {m : Nat} {A : Nat → Nat} {I : Nat → Int32} {B : Nat → Nat → Int32} {wd : Int64}
def AF (I0 : Nat → Int32) (B0 : Nat → Nat → Int32) (I : Nat → Int32) (B : Nat → Nat → Int32) : Prop := I 3 = I0 3 ∧ I 4 = I0 4 ∧ I 6 = I0 6 ∧ B 1 = B0 1 ∧ B 2 = B0 2 ∧ B 5 = B0 5
def RA (I0 : Nat → Int32) (B0 : Nat → Nat → Int32) (res : Nat ⊕ (Nat × Row)) : Option Value → (Nat → Int32) → (Nat → Nat → Int32) → Int64 → Prop := fun v I' B' _ => AF I0 B0 I' B' ∧ ∃ n : Nat, v = some (.int (nI n)) ∧ match res with
  | .inl e => e ≤ 120 ∧ I' 26 = nI e
  | .inr y => n = y.1 ∧ I' 26 = -1 ∧ B' 0 = y.2 ∧ WS y.2
theorem m_runAll_e (d : Nat) (h0 : xH) (Q : Option Value → (Nat → Int32) → (Nat → Nat → Int32) → Int64 → Prop) (e : Nat) (he : e < 2 ^ 31) (n : Nat) (a2 a3 a4 : Option Value) (h : xH) (hM : MR g h m A I B wd) (hF : MF m A h0 h) (h26 : I 26 = nI e) (kd : Nat) (hk : I 20 = nI kd) (hkd : kd < 5) (hE : Q (some (.int (nI n))) I B wd) :
    X g l mX3_runAll d 0 0 (fun o h' => ∃ v I' B' wd', o = .inl v ∧ Q v I' B' wd' ∧ MR g h' m A I' B' wd' ∧ MF m A h0 h') 16 [some (.ref m), some (.int (nI n)), a2, a3, a4] [] h 0 0 := by
  refine x_aload_n (M := mX3_runAll) (pc := 16) dX3_runAll_16 rfl ?_
  refine x_get (M := mX3_runAll) (pc := 17) kcX3 20 rfl q2855 dX3_runAll_17 hM.1 rfl ?_
  refine x_val (M := mX3_runAll) (pc := 20) (hk) ?_
  first | with_reducible refine x_ifB_eq (M := mX3_runAll) (pc := 20) 120 dX3_runAll_20 (by decide) (fun c20 => ?_) (fun c20 => ?_) | with_reducible refine x_if_eqN (M := mX3_runAll) (pc := 20) 120 dX3_runAll_20 (by decide) (by omega) (fun c20 => ?_) (fun c20 => ?_) | refine x_if_eq (M := mX3_runAll) (pc := 20) 120 dX3_runAll_20 (by decide) (fun c20 => ?_) (fun c20 => ?_)
  · refine x_iload_n (M := mX3_runAll) (pc := 120) dX3_runAll_120 rfl ?_
    refine x_iret (M := mX3_runAll) (pc := 121) dX3_runAll_121 rfl (Nat.le_refl 0) (Nat.le_refl 0) ⟨_, _, _, _, rfl, ?_, hM, hF⟩
    exact hE
  · refine x_aload_n (M := mX3_runAll) (pc := 23) dX3_runAll_23 rfl ?_
    refine x_get (M := mX3_runAll) (pc := 24) kcX3 26 rfl q2861 dX3_runAll_24 hM.1 rfl ?_
    refine x_val (M := mX3_runAll) (pc := 27) (h26) ?_
    first | refine x_if_ge (M := mX3_runAll) (pc := 27) 120 dX3_runAll_27 (by decide) (fun c27 => ?_) (fun c27 => ?_)
    · refine x_iload_n (M := mX3_runAll) (pc := 120) dX3_runAll_120 rfl ?_
      refine x_iret (M := mX3_runAll) (pc := 121) dX3_runAll_121 rfl (Nat.le_refl 0) (Nat.le_refl 0) ⟨_, _, _, _, rfl, ?_, hM, hF⟩
      exact hE
    · exact absurd (nI_nn he) c27
theorem m_runAll_l (d u len : Nat) (tx : Nat → Nat) (hu : u ≤ 5) (hd : 7 ≤ d) (I0 : Nat → Int32) (B0 : Nat → Nat → Int32) (hU : I0 3 = nI u) (hr : I0 6 = bI true) (hT0 : TX I0 B0 len tx) (h0 : xH) (Q : Option Value → (Nat → Int32) → (Nat → Nat → Int32) → Int64 → Prop) (res : Nat ⊕ (Nat × Row))
    (hE : ∀ v I' B' wd', RA I0 B0 res v I' B' wd' → Q v I' B' wd') :
    ∀ (f p n : Nat) (a2 a3 a4 : Option Value) h I B wd, len < p + f → AF I0 B0 I B → TK I wd tx len p → I 26 = -1 → WS (B 0) → res = t_all tx len f (B 0) p n → MR g h m A I B wd → MF m A h0 h →
    X g l mX3_runAll d 0 0 (fun o h' => ∃ v I' B' wd', o = .inl v ∧ Q v I' B' wd' ∧ MR g h' m A I' B' wd' ∧ MF m A h0 h') 16 [some (.ref m), some (.int (nI n)), a2, a3, a4] [] h 0 0 := by
  intro f
  induction f with
  | zero => intro p n a2 a3 a4 h I B wd hf hA hK; have := hK.2.2.2.2.2; omega
  | succ f ih =>
    intro p n a2 a3 a4 h I B wd hf hA hK h26 hW he hM hF
    obtain ⟨k18, k20, kw, k22, k19, hpl⟩ := id hK
    have hkd := t_kd_lt tx len p
    have hT : TX I B len tx := ⟨hA.2.1.trans hT0.1, hT0.2.1, fun k hk => by rw [hA.2.2.2.2.2]; exact hT0.2.2.1 k hk, hT0.2.2.2⟩
    have hl120 := hT0.2.1
    have hb := t_b_le (tx := tx) hpl
    have hsl := t_sp_le (tx := tx) hpl
    have hU' : I 3 = nI u := hA.1.trans hU
    have hr' : I 6 = bI true := hA.2.2.1.trans hr
    rw [t_all] at he
    refine x_aload_n (M := mX3_runAll) (pc := 16) dX3_runAll_16 rfl ?_
    refine x_get (M := mX3_runAll) (pc := 17) kcX3 20 rfl q2855 dX3_runAll_17 hM.1 rfl ?_
    refine x_val (M := mX3_runAll) (pc := 20) (k20) ?_
    first | with_reducible refine x_ifB_eq (M := mX3_runAll) (pc := 20) 120 dX3_runAll_20 (by decide) (fun c20 => ?_) (fun c20 => ?_) | with_reducible refine x_if_eqN (M := mX3_runAll) (pc := 20) 120 dX3_runAll_20 (by decide) (by omega) (fun c20 => ?_) (fun c20 => ?_) | refine x_if_eq (M := mX3_runAll) (pc := 20) 120 dX3_runAll_20 (by decide) (fun c20 => ?_) (fun c20 => ?_)
    · refine x_iload_n (M := mX3_runAll) (pc := 120) dX3_runAll_120 rfl ?_
      refine x_iret (M := mX3_runAll) (pc := 121) dX3_runAll_121 rfl (Nat.le_refl 0) (Nat.le_refl 0) ⟨_, _, _, _, rfl, ?_, hM, hF⟩
      exact hE _ _ _ _ ⟨hA, n, rfl, by rw [he, if_pos c20]; exact ⟨rfl, h26, rfl, hW⟩⟩
    rw [if_neg c20] at he
    have hgt := t_sp_gt hpl c20
    refine x_aload_n (M := mX3_runAll) (pc := 23) dX3_runAll_23 rfl ?_
    refine x_get (M := mX3_runAll) (pc := 24) kcX3 26 rfl q2861 dX3_runAll_24 hM.1 rfl ?_
    refine x_val (M := mX3_runAll) (pc := 27) (h26) ?_
    refine x_if_ge (M := mX3_runAll) (pc := 27) 120 dX3_runAll_27 (by decide) (fun r_27 => ?_) (fun r_27 => ?_)
    · exact absurd r_27 (by decide)
    refine x_aload_n (M := mX3_runAll) (pc := 30) dX3_runAll_30 rfl ?_
    refine x_get (M := mX3_runAll) (pc := 31) kcX3 19 rfl q2854 dX3_runAll_31 hM.1 rfl ?_
    refine x_val (M := mX3_runAll) (pc := 34) (k19) ?_
    refine x_istore2 (M := mX3_runAll) (pc := 34) dX3_runAll_34 ?_
    refine x_aload_n (M := mX3_runAll) (pc := 35) dX3_runAll_35 rfl ?_
    refine x_get (M := mX3_runAll) (pc := 36) kcX3 20 rfl q2855 dX3_runAll_36 hM.1 rfl ?_
    refine x_val (M := mX3_runAll) (pc := 39) (k20) ?_
    refine x_iconst (M := mX3_runAll) (pc := 39) (v := nI 1) dX3_runAll_39 (by decide) ?_
    first | with_reducible refine x_icmp_neN (M := mX3_runAll) (pc := 40) 50 dX3_runAll_40 (by decide) (by omega) (by omega) (fun c40 => ?_) (fun c40 => ?_) | refine x_icmp_ne (M := mX3_runAll) (pc := 40) 50 dX3_runAll_40 (by decide) (fun c40 => ?_) (fun c40 => ?_)
    · have hc : t_cmd tx len p = 0 := by unfold t_cmd; rw [if_neg c40]
      have hst : t_st tx len (B 0) p = .inl (t_b tx len p) := by unfold t_st; rw [hc, if_pos (by decide)]
      rw [hst] at he
      refine x_lconst (M := mX3_runAll) (pc := 50) (v := 0) dX3_runAll_50 (by decide) ?_
      refine x_lstore3 (M := mX3_runAll) (pc := 51) dX3_runAll_51 ?_
      refine x_lload_n (M := mX3_runAll) (pc := 52) dX3_runAll_52 rfl ?_
      refine x_S1 (M := mX3_runAll) (pc := 53) (M' := mX3_isCommand) q3130 kSX3_isCommand dX3_runAll_53 (m_isCommand h 0 (d - 1)) (fun v_ h hq_ => ?_)
      obtain ⟨hv_, rfl⟩ := hq_; cases hv_
      first | with_reducible refine x_ifB_ne (M := mX3_runAll) (pc := 56) 67 dX3_runAll_56 (by decide) (fun c56 => ?_) (fun c56 => ?_) | with_reducible refine x_if_neN (M := mX3_runAll) (pc := 56) 67 dX3_runAll_56 (by decide) (by omega) (fun c56 => ?_) (fun c56 => ?_) | refine x_if_ne (M := mX3_runAll) (pc := 56) 67 dX3_runAll_56 (by decide) (fun c56 => ?_) (fun c56 => ?_)
      · exact absurd c56 (by decide)
      · refine x_aload_n (M := mX3_runAll) (pc := 59) dX3_runAll_59 rfl ?_
        refine x_iload_n (M := mX3_runAll) (pc := 60) dX3_runAll_60 rfl ?_
        refine xm_put26 (M := mX3_runAll) (pc := 61) hM hF q2861 dX3_runAll_61 (fun h hM hF => ?_)
        refine x_goto (M := mX3_runAll) (pc := 64) 117 dX3_runAll_64 (by decide) ?_
        refine x_goto (M := mX3_runAll) (pc := 117) 16 dX3_runAll_117 (by decide) ?_
        exact m_runAll_e d h0 Q (t_b tx len p) (by omega) n _ _ _ _ hM hF (upd_s _ _ _) (t_kd tx len p) ((upd_n _ _ (by decide)).trans k20) hkd (hE _ _ _ _ ⟨hA, n, rfl, by rw [he]; exact ⟨by omega, upd_s _ _ _⟩⟩)
    · have hc : t_cmd tx len p = wd := by unfold t_cmd; rw [if_pos c40, kw]
      refine x_aload_n (M := mX3_runAll) (pc := 43) dX3_runAll_43 rfl ?_
      refine x_get (M := mX3_runAll) (pc := 44) kcX3 21 rfl q2856 dX3_runAll_44 hM.1 rfl ?_
      refine x_goto (M := mX3_runAll) (pc := 47) 51 dX3_runAll_47 (by decide) ?_
      refine x_lstore3 (M := mX3_runAll) (pc := 51) dX3_runAll_51 ?_
      refine x_lload_n (M := mX3_runAll) (pc := 52) dX3_runAll_52 rfl ?_
      refine x_S1 (M := mX3_runAll) (pc := 53) (M' := mX3_isCommand) q3130 kSX3_isCommand dX3_runAll_53 (m_isCommand h wd (d - 1)) (fun v_ h hq_ => ?_)
      obtain ⟨hv_, rfl⟩ := hq_; cases hv_
      first | with_reducible refine x_ifB_ne (M := mX3_runAll) (pc := 56) 67 dX3_runAll_56 (by decide) (fun c56 => ?_) (fun c56 => ?_) | with_reducible refine x_if_neN (M := mX3_runAll) (pc := 56) 67 dX3_runAll_56 (by decide) (by omega) (fun c56 => ?_) (fun c56 => ?_) | refine x_if_ne (M := mX3_runAll) (pc := 56) 67 dX3_runAll_56 (by decide) (fun c56 => ?_) (fun c56 => ?_)
      rotate_left
      · refine x_aload_n (M := mX3_runAll) (pc := 59) dX3_runAll_59 rfl ?_
        refine x_iload_n (M := mX3_runAll) (pc := 60) dX3_runAll_60 rfl ?_
        refine xm_put26 (M := mX3_runAll) (pc := 61) hM hF q2861 dX3_runAll_61 (fun h hM hF => ?_)
        refine x_goto (M := mX3_runAll) (pc := 64) 117 dX3_runAll_64 (by decide) ?_
        refine x_goto (M := mX3_runAll) (pc := 117) 16 dX3_runAll_117 (by decide) ?_
        exact m_runAll_e d h0 Q (t_b tx len p) (by omega) n _ _ _ _ hM hF (upd_s _ _ _) (t_kd tx len p) ((upd_n _ _ (by decide)).trans k20) hkd (hE _ _ _ _ ⟨hA, n, rfl, by rw [he]; unfold t_st; rw [hc, if_pos c56]; exact ⟨by omega, upd_s _ _ _⟩⟩)
      skip
      have hci : isCmd wd = true := c56
      generalize hst : t_st tx len (B 0) p = st at he
      unfold t_st at hst
      rw [hc, if_neg (by rw [hci]; decide)] at hst
      refine x_aload_n (M := mX3_runAll) (pc := 67) dX3_runAll_67 rfl ?_
      refine x_lload_n (M := mX3_runAll) (pc := 68) dX3_runAll_68 rfl ?_
      refine x_V1 (M := mX3_runAll) (pc := 69) (M' := mX3_readsNeeds) q3142 kVX3_readsNeeds dX3_runAll_69 (m_readsNeeds (d - 1) len (t_sp tx len p) tx wd (by omega) hT k18 hsl h hM) (hM.is) (fun v_ h hq_ => ?_)
      obtain ⟨v_, I_, B_, wd_, hv_, hQ, hM_, hF_⟩ := hq_
      cases hv_
      replace hF := hF.tr hF_
      replace hM := hM_
      clear hM_ hF_
      obtain ⟨rfl, hP, h24⟩ := hQ
      have hge := t_rn_ge (tx := tx) (w := wd) hsl
      have hlen := t_rn_len (tx := tx) (w := wd) hsl
      generalize hrr : t_rn tx len wd (t_sp tx len p) = r at *
      obtain ⟨hT1, hK1, f1, f2, h25, hN⟩ := id hP
      have hkq := t_kd_lt tx len r.2.2.2
      have hA1 : AF I0 B0 I_ B_ := ⟨(f1 3 (by decide) (by decide) (by decide) (by decide) (by decide) (by decide)).trans hA.1, (f1 4 (by decide) (by decide) (by decide) (by decide) (by decide) (by decide)).trans hA.2.1, (f1 6 (by decide) (by decide) (by decide) (by decide) (by decide) (by decide)).trans hA.2.2.1, (f2 1 (by decide)).trans hA.2.2.2.1, (f2 2 (by decide)).trans hA.2.2.2.2.1, (f2 5 (by decide)).trans hA.2.2.2.2.2⟩
      have hbq := t_b_le (tx := tx) hge.2
      have hbad : (r.1 && decide (t_kd tx len r.2.2.2 = 3)) = false → ∀ w4, X g l mX3_runAll d 0 0 (fun o h' => ∃ v I' B' wd', o = .inl v ∧ Q v I' B' wd' ∧ MR g h' m A I' B' wd' ∧ MF m A h0 h') 83 [some (.ref m), some (.int (nI n)), some (.int (nI (t_b tx len p))), some (.long wd), w4] [] h 0 0 := fun hf w4 => by
        rw [if_pos hf] at hst
        rw [← hst] at he
        refine x_aload_n (M := mX3_runAll) (pc := 83) dX3_runAll_83 rfl ?_
        refine x_aload_n (M := mX3_runAll) (pc := 84) dX3_runAll_84 rfl ?_
        refine x_get (M := mX3_runAll) (pc := 85) kcX3 19 rfl q2854 dX3_runAll_85 hM.1 rfl ?_
        refine x_val (M := mX3_runAll) (pc := 88) (hK1.2.2.2.2.1) ?_
        refine xm_put26 (M := mX3_runAll) (pc := 88) hM hF q2861 dX3_runAll_88 (fun h hM hF => ?_)
        refine x_goto (M := mX3_runAll) (pc := 91) 117 dX3_runAll_91 (by decide) ?_
        refine x_goto (M := mX3_runAll) (pc := 117) 16 dX3_runAll_117 (by decide) ?_
        exact m_runAll_e d h0 Q (t_b tx len r.2.2.2) (by omega) n _ _ _ _ hM hF (upd_s _ _ _) (t_kd tx len r.2.2.2) ((upd_n _ _ (by decide)).trans hK1.2.1) hkq (hE _ _ _ _ ⟨hA1, n, rfl, by rw [he]; exact ⟨by omega, upd_s _ _ _⟩⟩)
      first | with_reducible refine x_ifB_eq (M := mX3_runAll) (pc := 72) 83 dX3_runAll_72 (by decide) (fun c72 => ?_) (fun c72 => ?_) | with_reducible refine x_if_eqN (M := mX3_runAll) (pc := 72) 83 dX3_runAll_72 (by decide) (by omega) (fun c72 => ?_) (fun c72 => ?_) | refine x_if_eq (M := mX3_runAll) (pc := 72) 83 dX3_runAll_72 (by decide) (fun c72 => ?_) (fun c72 => ?_)
      · exact hbad (by rw [c72]; rfl) _
      refine x_aload_n (M := mX3_runAll) (pc := 75) dX3_runAll_75 rfl ?_
      refine x_get (M := mX3_runAll) (pc := 76) kcX3 20 rfl q2855 dX3_runAll_76 hM.1 rfl ?_
      refine x_val (M := mX3_runAll) (pc := 79) (hK1.2.1) ?_
      refine x_iconst (M := mX3_runAll) (pc := 79) (v := nI 3) dX3_runAll_79 (by decide) ?_
      first | with_reducible refine x_icmp_eqN (M := mX3_runAll) (pc := 80) 94 dX3_runAll_80 (by decide) (by omega) (by omega) (fun c80 => ?_) (fun c80 => ?_) | refine x_icmp_eq (M := mX3_runAll) (pc := 80) 94 dX3_runAll_80 (by decide) (fun c80 => ?_) (fun c80 => ?_)
      rotate_left
      · exact hbad (by rw [c72, decide_eq_false c80]; rfl) _
      rw [if_neg (by rw [c72, decide_eq_true c80]; decide)] at hst
      have hlen := hlen c72
      have hW1 : WS (B_ 0) := by rw [f2 0 (by decide)]; exact hW
      have hb00 : B_ 0 = B 0 := f2 0 (by decide)
      refine x_aload_n (M := mX3_runAll) (pc := 94) dX3_runAll_94 rfl ?_
      refine x_lload_n (M := mX3_runAll) (pc := 95) dX3_runAll_95 rfl ?_
      refine x_V1 (M := mX3_runAll) (pc := 96) (M' := mX3_doCommand) q3159 kVX3_doCommand dX3_runAll_96 (m_doCommand (d - 1) u hu (hA1.1.trans hU) (hA1.2.2.1.trans hr) (by omega) hW1.1 wd r.2.1 r.2.2.1 hlen.1 (hN c72) hlen.2.2.2.2 h25 h24 hlen.2.1 hlen.2.2.1 hlen.2.2.2.1 h hM) (hM.is) (fun v_ h hq_ => ?_)
      obtain ⟨v_, I_, B_, wd_, hv_, hQ, hM_, hF_⟩ := hq_
      cases hv_
      replace hF := hF.tr hF_
      replace hM := hM_
      clear hM_ hF_
      obtain ⟨hR2, x, rfl, hx⟩ := hQ
      rw [hb00] at hx
      have hK2 : TK I_ wd_ tx len r.2.2.2 := ⟨(hR2.1 18 (by decide) (by decide) (by decide)).trans hK1.1, (hR2.1 20 (by decide) (by decide) (by decide)).trans hK1.2.1, hR2.2.2.trans hK1.2.2.1, fun z => (hR2.1 22 (by decide) (by decide) (by decide)).trans (hK1.2.2.2.1 z), (hR2.1 19 (by decide) (by decide) (by decide)).trans hK1.2.2.2.2.1, hK1.2.2.2.2.2⟩
      have hA2 : AF I0 B0 I_ B_ := ⟨(hR2.1 3 (by decide) (by decide) (by decide)).trans hA1.1, (hR2.1 4 (by decide) (by decide) (by decide)).trans hA1.2.1, (hR2.1 6 (by decide) (by decide) (by decide)).trans hA1.2.2.1, (hR2.2.1 1 (by decide) (by decide)).trans hA1.2.2.2.1, (hR2.2.1 2 (by decide) (by decide)).trans hA1.2.2.2.2.1, (hR2.2.1 5 (by decide) (by decide)).trans hA1.2.2.2.2.2⟩
      have h26' : I_ 26 = -1 := (hR2.1 26 (by decide) (by decide) (by decide)).trans ((f1 26 (by decide) (by decide) (by decide) (by decide) (by decide) (by decide)).trans h26)
      cases hdo : t_do (B 0) wd r.2.1 r.2.2.1 with
      | none =>
        rw [hdo] at hst hx
        rw [← hst] at he
        refine x_if_ge (M := mX3_runAll) (pc := 99) 110 dX3_runAll_99 (by decide) (fun r_99 => ?_) (fun r_99 => ?_)
        · exact absurd hx (Int32.not_lt.mpr r_99)
        refine x_aload_n (M := mX3_runAll) (pc := 102) dX3_runAll_102 rfl ?_
        refine x_iload_n (M := mX3_runAll) (pc := 103) dX3_runAll_103 rfl ?_
        refine xm_put26 (M := mX3_runAll) (pc := 104) hM hF q2861 dX3_runAll_104 (fun h hM hF => ?_)
        refine x_goto (M := mX3_runAll) (pc := 107) 117 dX3_runAll_107 (by decide) ?_
        refine x_goto (M := mX3_runAll) (pc := 117) 16 dX3_runAll_117 (by decide) ?_
        exact m_runAll_e d h0 Q (t_b tx len p) (by omega) n _ _ _ _ hM hF (upd_s _ _ _) (t_kd tx len r.2.2.2) ((upd_n _ _ (by decide)).trans hK2.2.1) hkq (hE _ _ _ _ ⟨hA2, n, rfl, by rw [he]; exact ⟨by omega, upd_s _ _ _⟩⟩)
      | some s' =>
        rw [hdo] at hst hx
        rw [← hst] at he
        have hws := t_do_ws hW hdo
        refine x_if_ge (M := mX3_runAll) (pc := 99) 110 dX3_runAll_99 (by decide) (fun r_99 => ?_) (fun r_99 => ?_)
        rotate_left
        · exact absurd hx.1 r_99
        have hT2 : TX I_ B_ len tx := ⟨hA2.2.1.trans hT0.1, hT0.2.1, fun k hk => by rw [hA2.2.2.2.2.2]; exact hT0.2.2.1 k hk, hT0.2.2.2⟩
        have hsq := t_sp_le (tx := tx) hge.2
        have hsg := t_sp_ge (tx := tx) hge.2
        first | refine x_iinc1N (M := mX3_runAll) (pc := 110) (c := 1) dX3_runAll_110 oI1 ?_ | refine x_iinc1 (M := mX3_runAll) (pc := 110) (c := 1) dX3_runAll_110 (by decide) ?_
        refine x_aload_n (M := mX3_runAll) (pc := 113) dX3_runAll_113 rfl ?_
        refine x_V0 (M := mX3_runAll) (pc := 114) (M' := mX3_next) q3106 kVX3_next dX3_runAll_114 (m_next (d - 1) len (t_sp tx len r.2.2.2) tx (by omega) hT2 hK2.1 hsq h hM) (hM.is) (fun v_ h hq_ => ?_)
        obtain ⟨v_, I_, B_, wd_, hv_, hQ, hM_, hF_⟩ := hq_
        cases hv_
        replace hF := hF.tr hF_
        replace hM := hM_
        clear hM_ hF_
        have hP3 := NX.pm hT2 hsq hQ
        have hv := hQ.1
        subst hv
        refine x_goto (M := mX3_runAll) (pc := 117) 16 dX3_runAll_117 (by decide) ?_
        refine ih (t_sp tx len r.2.2.2) (n + 1) _ _ _ _ _ _ _ (by omega) ?_ hP3.2.1 ((hP3.2.2.1 26 (by decide) (by decide) (by decide) (by decide)).trans h26') ?_ ?_ hM hF
        · exact ⟨(hP3.2.2.1 3 (by decide) (by decide) (by decide) (by decide)).trans hA2.1, (hP3.2.2.1 4 (by decide) (by decide) (by decide) (by decide)).trans hA2.2.1, (hP3.2.2.1 6 (by decide) (by decide) (by decide) (by decide)).trans hA2.2.2.1, by rw [hP3.2.2.2]; exact hA2.2.2.2.1, by rw [hP3.2.2.2]; exact hA2.2.2.2.2.1, by rw [hP3.2.2.2]; exact hA2.2.2.2.2.2⟩
        · rw [hP3.2.2.2, hx.2]; exact hws
        · rw [hP3.2.2.2, hx.2]; exact he
theorem m_runAll (d u len : Nat) (tx : Nat → Nat) (hu : u ≤ 5) (hd : 7 ≤ d) (hU : I 3 = nI u) (hr : I 6 = bI true) (hT : TX I B len tx) (hW : WS (B 0)) : MC g l mX3_runAll d [] m A I B wd (RA I B (t_all tx len (len + 1) (B 0) 0 0)) := by
  intro h hM
  have hF : MF m A h h := MF.rf
  refine Ct.of [some (.ref m), none, none, none, none] (by decide +kernel) rfl (Nat.le_of_ble_eq_true rfl) rfl rfl ?_
  refine x_iconst (M := mX3_runAll) (pc := 0) (v := nI 0) dX3_runAll_0 (by decide) ?_
  refine x_istore1 (M := mX3_runAll) (pc := 1) dX3_runAll_1 ?_
  refine x_aload_n (M := mX3_runAll) (pc := 2) dX3_runAll_2 rfl ?_
  refine x_iconst (M := mX3_runAll) (pc := 3) (v := nI 0) dX3_runAll_3 (by decide) ?_
  refine xm_put18 (M := mX3_runAll) (pc := 4) hM hF q2853 dX3_runAll_4 (fun h hM hF => ?_)
  refine x_aload_n (M := mX3_runAll) (pc := 7) dX3_runAll_7 rfl ?_
  refine x_iconst (M := mX3_runAll) (pc := 8) (v := (-1)) dX3_runAll_8 (by decide) ?_
  refine xm_put26 (M := mX3_runAll) (pc := 9) hM hF q2861 dX3_runAll_9 (fun h hM hF => ?_)
  refine x_aload_n (M := mX3_runAll) (pc := 12) dX3_runAll_12 rfl ?_
  have hT2 : TX (upd (upd I 18 (nI 0)) 26 (-1)) B len tx := ⟨(upd_n _ _ (by decide)).trans ((upd_n _ _ (by decide)).trans hT.1), hT.2⟩
  refine x_V0 (M := mX3_runAll) (pc := 13) (M' := mX3_next) q3106 kVX3_next dX3_runAll_13 (m_next (d - 1) len 0 tx (by omega) hT2 rfl (Nat.zero_le _) h hM) (hM.is) (fun v_ h hq_ => ?_)
  obtain ⟨v_, I_, B_, wd_, hv_, hQ, hM_, hF_⟩ := hq_
  cases hv_
  replace hF := hF.tr hF_
  replace hM := hM_
  clear hM_ hF_
  have hP3 := NX.pm hT2 (Nat.zero_le _) hQ
  have hv := hQ.1
  subst hv
  have hj : ∀ j, j ≠ 18 → j ≠ 19 → j ≠ 20 → j ≠ 22 → j ≠ 26 → I_ j = I j := fun j a b c e f => (hP3.2.2.1 j a b c e).trans ((upd_n _ _ f).trans (upd_n _ _ a))
  have hb := hP3.2.2.2
  refine m_runAll_l d u len tx hu hd I B hU hr hT _ _ _ (fun _ _ _ _ q => q) (len + 1) 0 0 _ _ _ _ _ _ _ (by omega) ?_ hP3.2.1 (hP3.2.2.1 26 (by decide) (by decide) (by decide) (by decide)) (by rw [hb]; exact hW) (by rw [hb]) hM hF
  exact ⟨hj 3 (by decide) (by decide) (by decide) (by decide) (by decide), hj 4 (by decide) (by decide) (by decide) (by decide) (by decide), hj 6 (by decide) (by decide) (by decide) (by decide) (by decide), by rw [hb], by rw [hb], by rw [hb]⟩
end MODELV

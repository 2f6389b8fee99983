/-! java.util.TreeMap: keys, search, insertion -/
section JDKTM3
set_option maxRecDepth 100000
variable {g : xG} {l : Launch} {h h0 : xH}
/-- the order of choices: fewer cuts, more pages, lesser row -/
def chRk (row cuts pages : Nat) : Int := ((cuts * 1048576 + (64 - pages) * 16384 + row : Nat) : Int)
/-- a key of rank r: an Integer (false), a Choice (true) -/
def CK (κ : Bool) (g : xG) (h : xH) (a : Nat) (r : Int) : Prop := match κ with
  | false => ∃ v : Int32, IV g h a v ∧ r = v.toInt
  | true => ∃ row cuts pages : Nat, row < 16384 ∧ cuts ≤ 16 ∧ pages ≤ 32 ∧ h a = some (.inr (27, [.int (nI row), .int (nI cuts), .int (nI pages)])) ∧ r = chRk row cuts pages
theorem CK.le {κ : Bool} {h' : xH} {a : Nat} {r : Int} (hl : ∀ e, h a = some e → h' a = some e) (hk : CK κ g h a r) : CK κ g h' a r := by
  cases κ with
  | false => obtain ⟨v, h1, h2⟩ := hk; exact ⟨v, h1.imp (hl _) id, h2⟩
  | true => obtain ⟨a', b, c, h1, h2, h3, h4, h5⟩ := hk; exact ⟨a', b, c, h1, h2, h3, hl _ h4, h5⟩
def sgn (v : Int32) (a b : Int) : Prop := (v < 0 ↔ a < b) ∧ (0 < v ↔ b < a)
theorem sgn_cmp (a b : Int32) : sgn (cmpI a b) a.toInt b.toInt := by
  unfold sgn cmpI
  rw [← Int32.lt_iff_toInt_lt, ← Int32.lt_iff_toInt_lt]
  by_cases h1 : a < b
  · rw [if_pos h1]
    exact ⟨⟨fun _ => h1, fun _ => by decide⟩, ⟨fun z => absurd z (by decide), fun z => absurd (Int32.lt_trans h1 z) Int32.lt_irrefl⟩⟩
  · rw [if_neg h1]
    by_cases h2 : a = b
    · rw [if_pos h2]; subst h2
      exact ⟨⟨fun z => absurd z (by decide), fun z => absurd z h1⟩, ⟨fun z => absurd z (by decide), fun z => absurd z h1⟩⟩
    · rw [if_neg h2]
      refine ⟨⟨fun z => absurd z (by decide), fun z => absurd z h1⟩, ⟨fun _ => ?_, fun _ => by decide⟩⟩
      rcases Int32.lt_or_eq_of_le (Int32.not_lt.mp h1) with q | q
      · exact q
      · exact absurd q.symm h2
theorem sgn_sub {a b : Nat} (ha : a < 2 ^ 30) (hb : b < 2 ^ 30) : (nI a - nI b).toInt = (a : Int) - b := by
  rw [Int32.toInt_sub, nI_toInt (by omega), nI_toInt (by omega), Int.bmod_eq_of_le (by omega) (by omega)]
theorem c_chCmp (h : xH) (a b d : Nat) (ra rb : Int) (ha : CK true g h a ra) (hb : CK true g h b rb) : Ct g l mX30_compareTo_2 d 0 0 [.ref a, .ref b] h (fun o h' => (∃ v, o = .inl (some (.int v)) ∧ sgn v ra rb) ∧ h' = h) := by
  obtain ⟨r1, c1, p1, h1, h2, h3, ha, e1⟩ := ha
  obtain ⟨r2, c2, p2, h4, h5, h6, hb, e2⟩ := hb
  subst e1; subst e2
  have key : ∀ v : Int32, (v.toInt < 0 ↔ chRk r1 c1 p1 < chRk r2 c2 p2) → (0 < v.toInt ↔ chRk r2 c2 p2 < chRk r1 c1 p1) → (∃ w, (Sum.inl (some (Value.int v)) : xO) = .inl (some (.int w)) ∧ sgn w (chRk r1 c1 p1) (chRk r2 c2 p2)) := fun v k1 k2 => ⟨v, rfl, by rw [Int32.lt_iff_toInt_lt]; exact k1, by rw [Int32.lt_iff_toInt_lt]; exact k2⟩
  refine Ct.of [some (.ref a), some (.ref b)] (by decide +kernel) rfl (Nat.le_of_ble_eq_true rfl) rfl rfl ?_
  refine x_aload_n (M := mX30_compareTo_2) (pc := 0) dX30_compareTo_2_0 rfl ?_
  refine x_get (M := mX30_compareTo_2) (pc := 1) kcX30 1 rfl q2801 dX30_compareTo_2_1 (by first | assumption | exact xu_s _ _ _ | exact (xu_n (by first | assumption | exact Ne.symm (by assumption) | exact xu_fresh (by assumption) (by assumption) | exact (xu_fresh (by assumption) (by assumption)).symm)).trans (by first | assumption | exact xu_s _ _ _ | exact (xu_n (by first | assumption | exact Ne.symm (by assumption) | exact xu_fresh (by assumption) (by assumption) | exact (xu_fresh (by assumption) (by assumption)).symm)).trans (by first | assumption | exact xu_s _ _ _ | exact (xu_n (by first | assumption | exact Ne.symm (by assumption) | exact xu_fresh (by assumption) (by assumption) | exact (xu_fresh (by assumption) (by assumption)).symm)).trans (by first | assumption | exact xu_s _ _ _)))) rfl ?_
  refine x_aload_n (M := mX30_compareTo_2) (pc := 4) dX30_compareTo_2_4 rfl ?_
  refine x_get (M := mX30_compareTo_2) (pc := 5) kcX30 1 rfl q2801 dX30_compareTo_2_5 (by first | assumption | exact xu_s _ _ _ | exact (xu_n (by first | assumption | exact Ne.symm (by assumption) | exact xu_fresh (by assumption) (by assumption) | exact (xu_fresh (by assumption) (by assumption)).symm)).trans (by first | assumption | exact xu_s _ _ _ | exact (xu_n (by first | assumption | exact Ne.symm (by assumption) | exact xu_fresh (by assumption) (by assumption) | exact (xu_fresh (by assumption) (by assumption)).symm)).trans (by first | assumption | exact xu_s _ _ _ | exact (xu_n (by first | assumption | exact Ne.symm (by assumption) | exact xu_fresh (by assumption) (by assumption) | exact (xu_fresh (by assumption) (by assumption)).symm)).trans (by first | assumption | exact xu_s _ _ _)))) rfl ?_
  first | with_reducible refine x_icmp_eqN (M := mX30_compareTo_2) (pc := 8) 21 dX30_compareTo_2_8 (by decide) (by omega) (by omega) (fun c8 => ?_) (fun c8 => ?_) | refine x_icmp_eq (M := mX30_compareTo_2) (pc := 8) 21 dX30_compareTo_2_8 (by decide) (fun c8 => ?_) (fun c8 => ?_)
  · refine x_aload_n (M := mX30_compareTo_2) (pc := 21) dX30_compareTo_2_21 rfl ?_
    refine x_get (M := mX30_compareTo_2) (pc := 22) kcX30 2 rfl q2803 dX30_compareTo_2_22 (by first | assumption | exact xu_s _ _ _ | exact (xu_n (by first | assumption | exact Ne.symm (by assumption) | exact xu_fresh (by assumption) (by assumption) | exact (xu_fresh (by assumption) (by assumption)).symm)).trans (by first | assumption | exact xu_s _ _ _ | exact (xu_n (by first | assumption | exact Ne.symm (by assumption) | exact xu_fresh (by assumption) (by assumption) | exact (xu_fresh (by assumption) (by assumption)).symm)).trans (by first | assumption | exact xu_s _ _ _ | exact (xu_n (by first | assumption | exact Ne.symm (by assumption) | exact xu_fresh (by assumption) (by assumption) | exact (xu_fresh (by assumption) (by assumption)).symm)).trans (by first | assumption | exact xu_s _ _ _)))) rfl ?_
    refine x_aload_n (M := mX30_compareTo_2) (pc := 25) dX30_compareTo_2_25 rfl ?_
    refine x_get (M := mX30_compareTo_2) (pc := 26) kcX30 2 rfl q2803 dX30_compareTo_2_26 (by first | assumption | exact xu_s _ _ _ | exact (xu_n (by first | assumption | exact Ne.symm (by assumption) | exact xu_fresh (by assumption) (by assumption) | exact (xu_fresh (by assumption) (by assumption)).symm)).trans (by first | assumption | exact xu_s _ _ _ | exact (xu_n (by first | assumption | exact Ne.symm (by assumption) | exact xu_fresh (by assumption) (by assumption) | exact (xu_fresh (by assumption) (by assumption)).symm)).trans (by first | assumption | exact xu_s _ _ _ | exact (xu_n (by first | assumption | exact Ne.symm (by assumption) | exact xu_fresh (by assumption) (by assumption) | exact (xu_fresh (by assumption) (by assumption)).symm)).trans (by first | assumption | exact xu_s _ _ _)))) rfl ?_
    first | with_reducible refine x_icmp_eqN (M := mX30_compareTo_2) (pc := 29) 44 dX30_compareTo_2_29 (by decide) (by omega) (by omega) (fun c29 => ?_) (fun c29 => ?_) | refine x_icmp_eq (M := mX30_compareTo_2) (pc := 29) 44 dX30_compareTo_2_29 (by decide) (fun c29 => ?_) (fun c29 => ?_)
    · refine x_aload_n (M := mX30_compareTo_2) (pc := 44) dX30_compareTo_2_44 rfl ?_
      refine x_get (M := mX30_compareTo_2) (pc := 45) kcX30 0 rfl q2799 dX30_compareTo_2_45 (by first | assumption | exact xu_s _ _ _ | exact (xu_n (by first | assumption | exact Ne.symm (by assumption) | exact xu_fresh (by assumption) (by assumption) | exact (xu_fresh (by assumption) (by assumption)).symm)).trans (by first | assumption | exact xu_s _ _ _ | exact (xu_n (by first | assumption | exact Ne.symm (by assumption) | exact xu_fresh (by assumption) (by assumption) | exact (xu_fresh (by assumption) (by assumption)).symm)).trans (by first | assumption | exact xu_s _ _ _ | exact (xu_n (by first | assumption | exact Ne.symm (by assumption) | exact xu_fresh (by assumption) (by assumption) | exact (xu_fresh (by assumption) (by assumption)).symm)).trans (by first | assumption | exact xu_s _ _ _)))) rfl ?_
      refine x_aload_n (M := mX30_compareTo_2) (pc := 48) dX30_compareTo_2_48 rfl ?_
      refine x_get (M := mX30_compareTo_2) (pc := 49) kcX30 0 rfl q2799 dX30_compareTo_2_49 (by first | assumption | exact xu_s _ _ _ | exact (xu_n (by first | assumption | exact Ne.symm (by assumption) | exact xu_fresh (by assumption) (by assumption) | exact (xu_fresh (by assumption) (by assumption)).symm)).trans (by first | assumption | exact xu_s _ _ _ | exact (xu_n (by first | assumption | exact Ne.symm (by assumption) | exact xu_fresh (by assumption) (by assumption) | exact (xu_fresh (by assumption) (by assumption)).symm)).trans (by first | assumption | exact xu_s _ _ _ | exact (xu_n (by first | assumption | exact Ne.symm (by assumption) | exact xu_fresh (by assumption) (by assumption) | exact (xu_fresh (by assumption) (by assumption)).symm)).trans (by first | assumption | exact xu_s _ _ _)))) rfl ?_
      first | with_reducible refine x_isubN (M := mX30_compareTo_2) (pc := 52) dX30_compareTo_2_52 (by fail) ?_ | refine x_isub (M := mX30_compareTo_2) (pc := 52) dX30_compareTo_2_52 ?_
      refine x_iret (M := mX30_compareTo_2) (pc := 53) dX30_compareTo_2_53 rfl (by first | exact Nat.le_of_ble_eq_true rfl | omega) (by first | exact Nat.le_of_ble_eq_true rfl | omega) ?_
      refine ⟨key _ ?_ ?_, rfl⟩ <;> rw [sgn_sub (by omega) (by omega)] <;> unfold chRk <;> omega
    · refine x_aload_n (M := mX30_compareTo_2) (pc := 32) dX30_compareTo_2_32 rfl ?_
      refine x_get (M := mX30_compareTo_2) (pc := 33) kcX30 2 rfl q2803 dX30_compareTo_2_33 (by first | assumption | exact xu_s _ _ _ | exact (xu_n (by first | assumption | exact Ne.symm (by assumption) | exact xu_fresh (by assumption) (by assumption) | exact (xu_fresh (by assumption) (by assumption)).symm)).trans (by first | assumption | exact xu_s _ _ _ | exact (xu_n (by first | assumption | exact Ne.symm (by assumption) | exact xu_fresh (by assumption) (by assumption) | exact (xu_fresh (by assumption) (by assumption)).symm)).trans (by first | assumption | exact xu_s _ _ _ | exact (xu_n (by first | assumption | exact Ne.symm (by assumption) | exact xu_fresh (by assumption) (by assumption) | exact (xu_fresh (by assumption) (by assumption)).symm)).trans (by first | assumption | exact xu_s _ _ _)))) rfl ?_
      refine x_aload_n (M := mX30_compareTo_2) (pc := 36) dX30_compareTo_2_36 rfl ?_
      refine x_get (M := mX30_compareTo_2) (pc := 37) kcX30 2 rfl q2803 dX30_compareTo_2_37 (by first | assumption | exact xu_s _ _ _ | exact (xu_n (by first | assumption | exact Ne.symm (by assumption) | exact xu_fresh (by assumption) (by assumption) | exact (xu_fresh (by assumption) (by assumption)).symm)).trans (by first | assumption | exact xu_s _ _ _ | exact (xu_n (by first | assumption | exact Ne.symm (by assumption) | exact xu_fresh (by assumption) (by assumption) | exact (xu_fresh (by assumption) (by assumption)).symm)).trans (by first | assumption | exact xu_s _ _ _ | exact (xu_n (by first | assumption | exact Ne.symm (by assumption) | exact xu_fresh (by assumption) (by assumption) | exact (xu_fresh (by assumption) (by assumption)).symm)).trans (by first | assumption | exact xu_s _ _ _)))) rfl ?_
      first | with_reducible refine x_isubN (M := mX30_compareTo_2) (pc := 40) dX30_compareTo_2_40 (by fail) ?_ | refine x_isub (M := mX30_compareTo_2) (pc := 40) dX30_compareTo_2_40 ?_
      refine x_goto (M := mX30_compareTo_2) (pc := 41) 53 dX30_compareTo_2_41 (by decide) ?_
      refine x_iret (M := mX30_compareTo_2) (pc := 53) dX30_compareTo_2_53 rfl (by first | exact Nat.le_of_ble_eq_true rfl | omega) (by first | exact Nat.le_of_ble_eq_true rfl | omega) ?_
      refine ⟨key _ ?_ ?_, rfl⟩ <;> rw [sgn_sub (by omega) (by omega)] <;> unfold chRk <;> omega
  · refine x_aload_n (M := mX30_compareTo_2) (pc := 11) dX30_compareTo_2_11 rfl ?_
    refine x_get (M := mX30_compareTo_2) (pc := 12) kcX30 1 rfl q2801 dX30_compareTo_2_12 (by first | assumption | exact xu_s _ _ _ | exact (xu_n (by first | assumption | exact Ne.symm (by assumption) | exact xu_fresh (by assumption) (by assumption) | exact (xu_fresh (by assumption) (by assumption)).symm)).trans (by first | assumption | exact xu_s _ _ _ | exact (xu_n (by first | assumption | exact Ne.symm (by assumption) | exact xu_fresh (by assumption) (by assumption) | exact (xu_fresh (by assumption) (by assumption)).symm)).trans (by first | assumption | exact xu_s _ _ _ | exact (xu_n (by first | assumption | exact Ne.symm (by assumption) | exact xu_fresh (by assumption) (by assumption) | exact (xu_fresh (by assumption) (by assumption)).symm)).trans (by first | assumption | exact xu_s _ _ _)))) rfl ?_
    refine x_aload_n (M := mX30_compareTo_2) (pc := 15) dX30_compareTo_2_15 rfl ?_
    refine x_get (M := mX30_compareTo_2) (pc := 16) kcX30 1 rfl q2801 dX30_compareTo_2_16 (by first | assumption | exact xu_s _ _ _ | exact (xu_n (by first | assumption | exact Ne.symm (by assumption) | exact xu_fresh (by assumption) (by assumption) | exact (xu_fresh (by assumption) (by assumption)).symm)).trans (by first | assumption | exact xu_s _ _ _ | exact (xu_n (by first | assumption | exact Ne.symm (by assumption) | exact xu_fresh (by assumption) (by assumption) | exact (xu_fresh (by assumption) (by assumption)).symm)).trans (by first | assumption | exact xu_s _ _ _ | exact (xu_n (by first | assumption | exact Ne.symm (by assumption) | exact xu_fresh (by assumption) (by assumption) | exact (xu_fresh (by assumption) (by assumption)).symm)).trans (by first | assumption | exact xu_s _ _ _)))) rfl ?_
    first | with_reducible refine x_isubN (M := mX30_compareTo_2) (pc := 19) dX30_compareTo_2_19 (by fail) ?_ | refine x_isub (M := mX30_compareTo_2) (pc := 19) dX30_compareTo_2_19 ?_
    refine x_iret (M := mX30_compareTo_2) (pc := 20) dX30_compareTo_2_20 rfl (by first | exact Nat.le_of_ble_eq_true rfl | omega) (by first | exact Nat.le_of_ble_eq_true rfl | omega) ?_
    refine ⟨key _ ?_ ?_, rfl⟩ <;> rw [sgn_sub (by omega) (by omega)] <;> unfold chRk <;> omega
theorem c_chCmpO (h : xH) (a b d : Nat) (hd : 1 ≤ d) (ra rb : Int) (ha : CK true g h a ra) (hb : CK true g h b rb) : Ct g l mX30_compareTo d 0 0 [.ref a, .ref b] h (fun o h' => (∃ v, o = .inl (some (.int v)) ∧ sgn v ra rb) ∧ h' = h) := by
  have ha' : xIs g h a RX30 := by obtain ⟨_, _, _, _, _, _, h1, _⟩ := ha; exact xIs.of kcX30 h1
  have hb' : xIs g h b RX30 := by obtain ⟨_, _, _, _, _, _, h1, _⟩ := hb; exact xIs.of kcX30 h1
  refine Ct.of [some (.ref a), some (.ref b)] (by decide +kernel) rfl (Nat.le_of_ble_eq_true rfl) rfl rfl ?_
  refine x_aload_n (M := mX30_compareTo) (pc := 0) dX30_compareTo_0 rfl ?_
  refine x_aload_n (M := mX30_compareTo) (pc := 1) dX30_compareTo_1 rfl ?_
  refine x_cast (M := mX30_compareTo) (pc := 2) q2227 dX30_compareTo_2 (hb') (Or.inl rfl) ?_
  refine x_V1 (M := mX30_compareTo) (pc := 5) (M' := mX30_compareTo_2) q2228 kVX30_compareTo_2 dX30_compareTo_5 (c_chCmp h a b (d - 1) ra rb ha hb) (ha') (fun v_ h hq_ => ?_)
  obtain ⟨⟨v, hv_, hs⟩, rfl⟩ := hq_; cases hv_
  refine x_iret (M := mX30_compareTo) (pc := 8) dX30_compareTo_8 rfl (by first | exact Nat.le_of_ble_eq_true rfl | omega) (by first | exact Nat.le_of_ble_eq_true rfl | omega) ?_
  exact ⟨⟨v, rfl, hs⟩, rfl⟩
theorem qIF_cI : xIF "java/lang/Integer" xCmp mJ10_compareTo 1 := ⟨q2233, q2235, kCJ10_compareTo, by decide +kernel, rfl, by decide +kernel⟩
theorem qIF_cC : xIF RX30 xCmp mX30_compareTo 1 := ⟨q2222, q2224, kCX30_compareTo, by decide +kernel, rfl, by decide +kernel⟩
section
variable {M : xM} {d mc ms : Nat} {Q : xO → xH → Prop} {pc : Nat} {Lo : List (Option Value)} {st : List Value} {uc us : Nat}
variable {tm : Nat} {o : va_E} {ns : List Nat} {K : Nat → Nat} {V : Nat → Option Nat} {L R P : Nat → Option Nat} {C : Nat → Bool}
theorem x_cmp {κ : Bool} {a b cnt : Nat} {ra rb : Int} (ha : CK κ g h a ra) (hb : CK κ g h b rb) (hcls : Cond.methodLink M.1.cls 107 xCmp ∈ lw_all) (hd : decode M.2.1 pc = .ok (.invokeinterface 107 cnt, 5)) (hdep : 3 ≤ d) (h1 : uc ≤ mc) (h2 : us ≤ ms) (hsum : (st.map fun v => v.category).sum ≤ 8) (kk : ∀ v, sgn v ra rb → X g l M d mc ms Q (pc + 5) Lo (.int v :: st) h uc us) : X g l M d mc ms Q pc Lo (.ref b :: .ref a :: st) h uc us := by
  cases κ with
  | false =>
    obtain ⟨v, hv, rfl⟩ := ha
    obtain ⟨w, hw, rfl⟩ := hb
    refine x_IF1 (M' := mJ10_compareTo) (d' := 2) (mc' := 0) (ms' := 0) hcls qIF_cI hd (j_cmpTo h a b 2 v w (by omega) hv hw) hv.is (fun v_ h hq_ => ?_) (hsum := hsum)
    obtain ⟨hv_, rfl⟩ := hq_; cases hv_
    exact kk _ (sgn_cmp v w)
  | true =>
    have ha' : xIs g h a RX30 := by obtain ⟨_, _, _, _, _, _, h1, _⟩ := ha; exact xIs.of kcX30 h1
    refine x_IF1 (M' := mX30_compareTo) (d' := 1) (mc' := 0) (ms' := 0) hcls qIF_cC hd (c_chCmpO h a b 1 (by omega) ra rb ha hb) ha' (fun v_ h hq_ => ?_) (hsum := hsum)
    obtain ⟨⟨v, hv_, hs⟩, rfl⟩ := hq_; cases hv_
    exact kk _ hs
theorem x_tg0 {n idx : Nat} (hT : TN h tm o ns K V L R P C) (hn : n ∈ ns) (hl : Cond.fieldLink M.1.cls idx (TJ32 0).1 (TJ32 0).2.1 (TJ32 0).2.2.1 ∈ lw_all) (hd : decode M.2.1 pc = .ok (.getfield idx, 3)) (kk : X g l M d mc ms Q (pc + 3) Lo (.ref (K n) :: st) h uc us) : X g l M d mc ms Q pc Lo (.ref n :: st) h uc us :=
  x_get kcJ32 0 rfl hl hd (hT.2.1 n hn) rfl kk
theorem x_tg1 {n idx : Nat} (hT : TN h tm o ns K V L R P C) (hn : n ∈ ns) (hl : Cond.fieldLink M.1.cls idx (TJ32 1).1 (TJ32 1).2.1 (TJ32 1).2.2.1 ∈ lw_all) (hd : decode M.2.1 pc = .ok (.getfield idx, 3)) (kk : X g l M d mc ms Q (pc + 3) Lo (va_rf (V n) :: st) h uc us) : X g l M d mc ms Q pc Lo (.ref n :: st) h uc us :=
  x_get kcJ32 1 rfl hl hd (hT.2.1 n hn) rfl kk
theorem CK.is {κ : Bool} {a : Nat} {r : Int} (hk : CK κ g h a r) : xIs g h a (if κ then RX30 else "java/lang/Integer") := by
  cases κ with
  | false => obtain ⟨v, h1, h2⟩ := hk; exact h1.is
  | true => obtain ⟨_, _, _, _, _, _, h1, _⟩ := hk; exact xIs.of kcX30 h1
theorem x_castCK {κ : Bool} {a : Nat} {r : Int} {idx : Nat} (hk : CK κ g h a r) (hl : Cond.classLink M.1.cls idx "java/lang/Comparable" ∈ lw_all) (hd : decode M.2.1 pc = .ok (.checkcast idx, 3)) (kk : X g l M d mc ms Q (pc + 3) Lo (.ref a :: st) h uc us) : X g l M d mc ms Q pc Lo (.ref a :: st) h uc us := by
  refine x_cast hl hd hk.is ?_ kk
  cases κ
  · exact Or.inr q2232
  · exact Or.inr q2221
end
theorem j_geL (h : xH) (tm a d : Nat) (hd : 3 ≤ d) (κ : Bool) (r : Int) (o : va_E) (ns : List Nat) (K : Nat → Nat) (V : Nat → Option Nat) (L R P : Nat → Option Nat) (C : Nat → Bool) (rk : Nat → Int) (hT : TN h tm o ns K V L R P C) (hk : CK κ g h a r) (hK : ∀ n ∈ ns, CK κ g h (K n) (rk n)) (Q : xO → xH → Prop) (hE : ∀ o : Option Nat, ((∃ n, n ∈ ns ∧ rk n = r ∧ o = some n) ∨ (o = none ∧ ∀ n ∈ ns, rk n ≠ r)) → Q (.inl (some (va_rf o))) h) : ∀ (t : Tre) (p : Option Nat), tSh L R P t p → (∀ n ∈ tIo t, n ∈ ns) → (tIo t).Pairwise (fun a b => rk a < rk b) → (∀ n ∈ ns, n ∉ tIo t → rk n ≠ r) → ∀ a4, X g l mJ21_getEntry d 0 0 Q 28 [some (.ref tm), some (.ref a), some (.ref a), some (va_rf (tRt t)), a4] [] h 0 0 := by
  intro t
  induction t with
  | leaf =>
    intro p hS hsub hpw hrest a4
    show X g l mJ21_getEntry d 0 0 Q 28 [some (.ref tm), some (.ref a), some (.ref a), some .null, a4] [] h 0 0
    refine x_aload_n (M := mJ21_getEntry) (pc := 28) dJ21_getEntry_28 rfl ?_
    refine x_ifnullN (M := mJ21_getEntry) (pc := 29) 75 dJ21_getEntry_29 (by decide) ?_
    refine x_null (M := mJ21_getEntry) (pc := 75) dJ21_getEntry_75 ?_
    refine x_aret (M := mJ21_getEntry) (pc := 76) dJ21_getEntry_76 rfl (by first | exact Or.inl ⟨_, rfl⟩ | exact Or.inr ⟨_, rfl⟩) (by first | exact Nat.le_of_ble_eq_true rfl | omega) (by first | exact Nat.le_of_ble_eq_true rfl | omega) ?_
    exact hE none (Or.inr ⟨rfl, fun n hn => hrest n hn (by simp [tIo])⟩)
  | inner s n u0 tl' tr ihl ihr =>
    intro p hS hsub hpw hrest a4
    obtain ⟨h1, h2, h3, h4, h5⟩ := hS
    have hn : n ∈ ns := hsub n (by simp [tIo])
    simp only [tIo, List.pairwise_append, List.pairwise_cons] at hpw
    show X g l mJ21_getEntry d 0 0 Q 28 [some (.ref tm), some (.ref a), some (.ref a), some (.ref n), a4] [] h 0 0
    refine x_aload_n (M := mJ21_getEntry) (pc := 28) dJ21_getEntry_28 rfl ?_
    refine x_ifnullR (M := mJ21_getEntry) (pc := 29) dJ21_getEntry_29 ?_
    refine x_aload_n (M := mJ21_getEntry) (pc := 32) dJ21_getEntry_32 rfl ?_
    refine x_aload_n (M := mJ21_getEntry) (pc := 33) dJ21_getEntry_33 rfl ?_
    refine x_tg0 (M := mJ21_getEntry) (pc := 34) hT hn q2547 dJ21_getEntry_34 ?_
    refine x_cmp (M := mJ21_getEntry) (pc := 37) hk (hK n hn) q2517 dJ21_getEntry_37 hd (Nat.le_refl _) (Nat.le_refl _) (Nat.le_of_ble_eq_true rfl) (fun v hv => ?_)
    refine x_istore4 (M := mJ21_getEntry) (pc := 42) dJ21_getEntry_42 ?_
    refine x_iload (M := mJ21_getEntry) (pc := 44) dJ21_getEntry_44 rfl ?_
    refine x_if_ge (M := mJ21_getEntry) (pc := 46) 57 dJ21_getEntry_46 (by decide) (fun r_46 => ?_) (fun r_46 => ?_)
    · refine x_iload (M := mJ21_getEntry) (pc := 57) dJ21_getEntry_57 rfl ?_
      refine x_if_le (M := mJ21_getEntry) (pc := 59) 70 dJ21_getEntry_59 (by decide) (fun r_59 => ?_) (fun r_59 => ?_)
      · have e : rk n = r := by
          have z1 : ¬ r < rk n := fun z => absurd (hv.1.mpr z) (Int32.not_lt.mpr r_46)
          have z2 : ¬ rk n < r := fun z => absurd (hv.2.mpr z) (Int32.not_lt.mpr r_59)
          omega
        refine x_aload_n (M := mJ21_getEntry) (pc := 70) dJ21_getEntry_70 rfl ?_
        refine x_aret (M := mJ21_getEntry) (pc := 71) dJ21_getEntry_71 rfl (by first | exact Or.inl ⟨_, rfl⟩ | exact Or.inr ⟨_, rfl⟩) (by first | exact Nat.le_of_ble_eq_true rfl | omega) (by first | exact Nat.le_of_ble_eq_true rfl | omega) ?_
        exact hE (some n) (Or.inl ⟨n, hn, e, rfl⟩)
      · have z2 : rk n < r := hv.2.mp (by rw [Int32.not_le] at r_59; exact r_59)
        refine x_aload_n (M := mJ21_getEntry) (pc := 62) dJ21_getEntry_62 rfl ?_
        refine x_tg3 (M := mJ21_getEntry) (pc := 63) hT hn (by rw [h3]) q2551 dJ21_getEntry_63 ?_
        refine x_astore3 (M := mJ21_getEntry) (pc := 66) dJ21_getEntry_66 ?_
        refine x_goto (M := mJ21_getEntry) (pc := 67) 72 dJ21_getEntry_67 (by decide) ?_
        refine x_goto (M := mJ21_getEntry) (pc := 72) 28 dJ21_getEntry_72 (by decide) ?_
        refine ihr _ h5 (fun m hm => hsub m (by simp [tIo, hm])) hpw.2.1.2 (fun m hm hnm => ?_) _
        by_cases q : m ∈ tIo (.inner s n u0 tl' tr)
        · simp only [tIo, List.mem_append, List.mem_cons] at q
          rcases q with q | q | q
          · have := hpw.2.2 m q n (by simp); omega
          · subst q; omega
          · exact absurd q hnm
        · exact hrest m hm q
    · have z1 : r < rk n := hv.1.mp (by rw [Int32.not_le] at r_46; exact r_46)
      refine x_aload_n (M := mJ21_getEntry) (pc := 49) dJ21_getEntry_49 rfl ?_
      refine x_tg2 (M := mJ21_getEntry) (pc := 50) hT hn (by rw [h2]) q2550 dJ21_getEntry_50 ?_
      refine x_astore3 (M := mJ21_getEntry) (pc := 53) dJ21_getEntry_53 ?_
      refine x_goto (M := mJ21_getEntry) (pc := 54) 72 dJ21_getEntry_54 (by decide) ?_
      refine x_goto (M := mJ21_getEntry) (pc := 72) 28 dJ21_getEntry_72 (by decide) ?_
      refine ihl _ h4 (fun m hm => hsub m (by simp [tIo, hm])) hpw.1 (fun m hm hnm => ?_) _
      by_cases q : m ∈ tIo (.inner s n u0 tl' tr)
      · simp only [tIo, List.mem_append, List.mem_cons] at q
        rcases q with q | q | q
        · exact absurd q hnm
        · subst q; omega
        · have := hpw.2.1.1 m q; omega
      · exact hrest m hm q
/-- a map of sorted entries ns: their keys K, values V, ranks rk -/
def TM (κ : Bool) (g : xG) (h : xH) (tm : Nat) (nk : Option Nat) (md : Int32) (ns : List Nat) (K : Nat → Nat) (V : Nat → Option Nat) (rk : Nat → Int) : Prop := ∃ sz T L R P C, tIo T = ns ∧ tSh L R P T none ∧ TN h tm (tobj (tRt T) sz md nk) ns K V L R P C ∧ (∀ r, tRt T = some r → C r = true) ∧ ns.Pairwise (fun a b => rk a < rk b) ∧ ∀ n ∈ ns, CK κ g h (K n) (rk n)
theorem j_getEntry (h : xH) (tm a d : Nat) (hd : 3 ≤ d) (κ : Bool) (r : Int) (nk : Option Nat) (md : Int32) (ns : List Nat) (K : Nat → Nat) (V : Nat → Option Nat) (rk : Nat → Int) (hM : TM κ g h tm nk md ns K V rk) (hk : CK κ g h a r) : Ct g l mJ21_getEntry d 0 0 [.ref tm, .ref a] h (fun o h' => (∃ q : Option Nat, o = .inl (some (va_rf q)) ∧ ((∃ n, n ∈ ns ∧ rk n = r ∧ q = some n) ∨ (q = none ∧ ∀ n ∈ ns, rk n ≠ r))) ∧ h' = h) := by
  obtain ⟨sz, T, L, R, P, C, hio, hS, hT, hC, hpw, hK⟩ := hM
  have htm := hT.1
  unfold tobj at htm
  refine Ct.of [some (.ref tm), some (.ref a), none, none, none] (by decide +kernel) rfl (Nat.le_of_ble_eq_true rfl) rfl rfl ?_
  refine x_aload_n (M := mJ21_getEntry) (pc := 0) dJ21_getEntry_0 rfl ?_
  refine x_get (M := mJ21_getEntry) (pc := 1) kcJ21 2 rfl q2086 dJ21_getEntry_1 (by first | assumption | exact xu_s _ _ _ | exact (xu_n (by first | assumption | exact Ne.symm (by assumption) | exact xu_fresh (by assumption) (by assumption) | exact (xu_fresh (by assumption) (by assumption)).symm)).trans (by first | assumption | exact xu_s _ _ _ | exact (xu_n (by first | assumption | exact Ne.symm (by assumption) | exact xu_fresh (by assumption) (by assumption) | exact (xu_fresh (by assumption) (by assumption)).symm)).trans (by first | assumption | exact xu_s _ _ _ | exact (xu_n (by first | assumption | exact Ne.symm (by assumption) | exact xu_fresh (by assumption) (by assumption) | exact (xu_fresh (by assumption) (by assumption)).symm)).trans (by first | assumption | exact xu_s _ _ _)))) rfl ?_
  refine x_ifnullN (M := mJ21_getEntry) (pc := 4) 13 dJ21_getEntry_4 (by decide) ?_
  refine x_aload_n (M := mJ21_getEntry) (pc := 13) dJ21_getEntry_13 rfl ?_
  refine x_S1 (M := mJ21_getEntry) (pc := 14) (M' := mJ23_requireNonNull) q2512 kSJ23_requireNonNull dJ21_getEntry_14 (j_reqNN h a (d - 1)) (fun v_ h hq_ => ?_)
  obtain ⟨hv_, rfl⟩ := hq_; cases hv_
  refine x_pop (M := mJ21_getEntry) (pc := 17) dJ21_getEntry_17 ?_
  refine x_aload_n (M := mJ21_getEntry) (pc := 18) dJ21_getEntry_18 rfl ?_
  skip
  refine x_castCK (M := mJ21_getEntry) (pc := 19) hk q2515 dJ21_getEntry_19 ?_
  refine x_astore2 (M := mJ21_getEntry) (pc := 22) dJ21_getEntry_22 ?_
  refine x_aload_n (M := mJ21_getEntry) (pc := 23) dJ21_getEntry_23 rfl ?_
  refine x_tgr (M := mJ21_getEntry) (pc := 24) hT rfl q2087 dJ21_getEntry_24 ?_
  refine x_astore3 (M := mJ21_getEntry) (pc := 27) dJ21_getEntry_27 ?_
  exact j_geL _ tm a d hd κ r _ ns K V L R P C rk hT hk hK _ (fun q hq => ⟨⟨q, rfl, hq⟩, rfl⟩) T none hS (fun n hn => by rw [← hio]; exact hn) (by rw [hio]; exact hpw) (fun n hn hnn => absurd (by rw [hio]; exact hn) hnn) _
theorem j_tmGet (h : xH) (tm a d : Nat) (hd : 4 ≤ d) (κ : Bool) (r : Int) (nk : Option Nat) (md : Int32) (ns : List Nat) (K : Nat → Nat) (V : Nat → Option Nat) (rk : Nat → Int) (hM : TM κ g h tm nk md ns K V rk) (hk : CK κ g h a r) : Ct g l mJ21_get d 0 0 [.ref tm, .ref a] h (fun o h' => (∃ q : Option Nat, o = .inl (some (va_rf q)) ∧ ((∃ n, n ∈ ns ∧ rk n = r ∧ q = V n) ∨ (q = none ∧ ∀ n ∈ ns, rk n ≠ r))) ∧ h' = h) := by
  have hM0 := hM
  obtain ⟨sz, T, L, R, P, C, hio, hS, hT, hC, hpw, hK⟩ := hM
  have htm := hT.1
  refine Ct.of [some (.ref tm), some (.ref a), none] (by decide +kernel) rfl (Nat.le_of_ble_eq_true rfl) rfl rfl ?_
  refine x_aload_n (M := mJ21_get) (pc := 0) dJ21_get_0 rfl ?_
  refine x_aload_n (M := mJ21_get) (pc := 1) dJ21_get_1 rfl ?_
  refine x_V1 (M := mJ21_get) (pc := 2) (M' := mJ21_getEntry) q2502 kVJ21_getEntry dJ21_get_2 (j_getEntry h tm a (d - 1) (by omega) κ r nk md ns K V rk hM0 hk) (xIs.of kcJ21 htm) (fun v_ h hq_ => ?_)
  obtain ⟨⟨q, hv_, hq⟩, rfl⟩ := hq_; cases hv_
  refine x_astore2 (M := mJ21_get) (pc := 5) dJ21_get_5 ?_
  skip
  rcases hq with ⟨n, hn, hr, rfl⟩ | ⟨rfl, hno⟩
  · show X g l _ _ _ _ _ _ [_, _, some (.ref n)] _ _ _ _
    refine x_aload_n (M := mJ21_get) (pc := 6) dJ21_get_6 rfl ?_
    refine x_ifnonnullR (M := mJ21_get) (pc := 7) 14 dJ21_get_7 (by decide) ?_
    refine x_aload_n (M := mJ21_get) (pc := 14) dJ21_get_14 rfl ?_
    refine x_tg1 (M := mJ21_get) (pc := 15) hT hn q2549 dJ21_get_15 ?_
    refine x_aret (M := mJ21_get) (pc := 18) dJ21_get_18 rfl (by first | exact Or.inl ⟨_, rfl⟩ | exact Or.inr ⟨_, rfl⟩) (by first | exact Nat.le_of_ble_eq_true rfl | omega) (by first | exact Nat.le_of_ble_eq_true rfl | omega) ?_
    exact ⟨⟨V n, rfl, Or.inl ⟨n, hn, hr, rfl⟩⟩, rfl⟩
  · show X g l _ _ _ _ _ _ [_, _, some .null] _ _ _ _
    refine x_aload_n (M := mJ21_get) (pc := 6) dJ21_get_6 rfl ?_
    refine x_ifnonnullN (M := mJ21_get) (pc := 7) dJ21_get_7 ?_
    refine x_null (M := mJ21_get) (pc := 10) dJ21_get_10 ?_
    refine x_goto (M := mJ21_get) (pc := 11) 18 dJ21_get_11 (by decide) ?_
    refine x_aret (M := mJ21_get) (pc := 18) dJ21_get_18 rfl (by first | exact Or.inl ⟨_, rfl⟩ | exact Or.inr ⟨_, rfl⟩) (by first | exact Nat.le_of_ble_eq_true rfl | omega) (by first | exact Nat.le_of_ble_eq_true rfl | omega) ?_
    exact ⟨⟨none, rfl, Or.inr ⟨rfl, hno⟩⟩, rfl⟩
end JDKTM3

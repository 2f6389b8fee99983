/-! append, clearText -/
section TEXT
set_option maxRecDepth 100000
variable {g : xG} {l : Launch} {h h0 h' : xH}
theorem ST.txt {h1 : xH} {ow : Nat → Option Nat} {cb dq arr hd sb tb len m : Nat} {tx : Nat → Nat} {x : HE} {hs : List HE} (hS : ST g h ow cb dq arr hd sb tb len tx x hs) (hx : h (xca g 0 0) = none) (hm : m ≠ sb) {tb' len' : Nat} {tx' : Nat → Nat} (hB : SB g h1 sb tb' len' tx') (hl : xle2 sb tb h h1) (ht : tb' = tb ∨ h tb' = none) (hlen' : len' ≤ 120) :
    ∃ ow', ST g h1 ow' cb dq arr hd sb tb' len' tx' x hs ∧ KP ow m h ow' h1 := by
  obtain ⟨h1_, hdk, nd1, nd2, hD, hSB, ⟨o1, o2, o3, o4, o5⟩, hlen, hl120⟩ := hS
  have hdq := hD.1
  obtain ⟨-, -, -, -, fa, harr, -⟩ := id hD
  obtain ⟨ml, cap, ff, -, s1, s2, -⟩ := id hSB
  have K : ∀ a e, h a = some e → ow a ≠ some sb → h1 a = some e := fun a e ha hn => hl a e (fun z => hn (by rw [z]; exact o4)) (fun z => hn (by rw [z]; exact o5)) ha
  have hw : ∀ a, h a ≠ none → (if h a = none then some sb else ow a) = ow a := fun a ha => if_neg ha
  have ncls : ∀ a c fs, c ≠ 30 → h a = some (.inr (c, fs)) → a ≠ sb := fun a c fs hc ha z => by rw [z, s1] at ha; cases ha; exact hc rfl
  refine ⟨fun a => if h a = none then some sb else ow a, ⟨K _ _ h1_ (by rw [o1]; exact fun z => ncls _ _ _ (by omega) h1_ (Option.some.inj z)), fun y hy => ?_, nd1, nd2, ?_, hB, ⟨(hw _ (by rw [h1_]; simp)).trans o1, (hw _ (by rw [hdq]; simp)).trans o2, (hw _ (by rw [harr]; simp)).trans o3, (hw _ (by rw [s1]; simp)).trans o4, ?_⟩, hlen, hlen'⟩, fun a e ha hq => K a e ha (by rw [hq]; exact fun z => hm (Option.some.inj z)), fun a ha => if_neg ha⟩
  · have hyD := hdk y hy
    obtain ⟨⟨sl, f, e1, -, -, -, ⟨P, zs, zt, hP, -⟩, -⟩, -⟩ := id hyD
    have hy1 : y.1 ≠ sb := ncls _ _ _ (by omega) e1
    have hy2 : y.2.1 ≠ sb := ncls _ _ _ (by omega) hP.1
    refine ⟨hyD.1.kp hx (fun a e ha q => ?_) hw, hyD.2⟩
    rcases q with q | q | q | q
    · exact K a e ha (by rw [q]; exact fun z => hy1 (Option.some.inj z))
    · exact K a e ha (by rw [q]; exact fun z => hy2 (Option.some.inj z))
    · exact K a e ha (by rw [q]; simp)
    · refine hl a e (fun z => ?_) (fun z => ?_) ha
      · rw [z, s1] at ha; cases ha; cases q
      · rw [z, s2] at ha; cases ha; cases q
  · have nq : some dq ≠ some sb := fun z => ncls _ _ _ (by omega) hdq (Option.some.inj z)
    exact hD.le2 (fun e he => K _ _ he (by rw [o2]; exact nq)) (fun e he => K _ _ he (by rw [o3]; exact nq))
  · show (if h tb' = none then some sb else ow tb') = some sb
    rcases ht with r | r
    · rw [r, if_neg (by rw [s2]; simp)]; exact o5
    · rw [if_pos r]
/-- what append and clearText leave -/
def TXS (g : xG) (hh : xH) (ow : Nat → Option Nat) (cb dq arr sb m : Nat) (x : HE) (hs : List HE) (len' : Nat) (tx' : Nat → Nat) (h' : xH) : Prop := ∃ ow' hd tb, ST g h' ow' cb dq arr hd sb tb len' tx' x hs ∧ KP ow m hh ow' h'
theorem pb_clearText (hh : xH) (ow : Nat → Option Nat) (cb dq arr hd sb tb len m d : Nat) (hd7 : 7 ≤ d) (tx : Nat → Nat) (x : HE) (hs : List HE) (hS : ST g hh ow cb dq arr hd sb tb len tx x hs) (hm : m ≠ sb) : Ct g l mX0_clearText d 1 1000 [.ref cb] hh (fun o h' => o = .inl (some (.int (nI len))) ∧ TXS g hh ow cb dq arr sb m x hs 0 tx h') := by
  have hcb := hS.1
  have hB := hS.2.2.2.2.2.1
  refine Ct.of [some (.ref cb), none] (by decide +kernel) rfl (Nat.le_of_ble_eq_true rfl) rfl rfl ?_
  refine x_cst (M := mX0_clearText) (pc := 0) (fun _ _ _ hx0 => ?_)
  refine x_aload_n (M := mX0_clearText) (pc := 0) dX0_clearText_0 rfl ?_
  refine x_get (M := mX0_clearText) (pc := 1) kcX0 2 rfl q370 dX0_clearText_1 (by first | assumption | exact xu_s _ _ _ | exact (xu_n (by first | assumption | exact Ne.symm (by assumption) | exact xu_fresh (by assumption) (by assumption) | exact (xu_fresh (by assumption) (by assumption)).symm)).trans (by first | assumption | exact xu_s _ _ _ | exact (xu_n (by first | assumption | exact Ne.symm (by assumption) | exact xu_fresh (by assumption) (by assumption) | exact (xu_fresh (by assumption) (by assumption)).symm)).trans (by first | assumption | exact xu_s _ _ _ | exact (xu_n (by first | assumption | exact Ne.symm (by assumption) | exact xu_fresh (by assumption) (by assumption) | exact (xu_fresh (by assumption) (by assumption)).symm)).trans (by first | assumption | exact xu_s _ _ _)))) rfl ?_
  refine x_V0 (M := mX0_clearText) (pc := 4) (M' := mJ5_length) q1611 kVJ5_length dX0_clearText_4 (j_sbLen hh sb tb len (d - 1) tx (by omega) hB) (hB.is) (fun v_ h2 hq_ => ?_)
  obtain ⟨hv_, he_⟩ := hq_; cases hv_; subst he_
  refine x_istore1 (M := mX0_clearText) (pc := 7) dX0_clearText_7 ?_
  refine x_aload_n (M := mX0_clearText) (pc := 8) dX0_clearText_8 rfl ?_
  refine x_get (M := mX0_clearText) (pc := 9) kcX0 2 rfl q370 dX0_clearText_9 (by first | assumption | exact xu_s _ _ _ | exact (xu_n (by first | assumption | exact Ne.symm (by assumption) | exact xu_fresh (by assumption) (by assumption) | exact (xu_fresh (by assumption) (by assumption)).symm)).trans (by first | assumption | exact xu_s _ _ _ | exact (xu_n (by first | assumption | exact Ne.symm (by assumption) | exact xu_fresh (by assumption) (by assumption) | exact (xu_fresh (by assumption) (by assumption)).symm)).trans (by first | assumption | exact xu_s _ _ _ | exact (xu_n (by first | assumption | exact Ne.symm (by assumption) | exact xu_fresh (by assumption) (by assumption) | exact (xu_fresh (by assumption) (by assumption)).symm)).trans (by first | assumption | exact xu_s _ _ _)))) rfl ?_
  refine x_iconst (M := mX0_clearText) (pc := 12) (v := nI 0) dX0_clearText_12 (by decide) ?_
  refine x_V1 (M := mX0_clearText) (pc := 13) (M' := mJ5_setLength) q1700 kVJ5_setLength dX0_clearText_13 (j_sbSetLen h2 sb tb len (d - 1) tx (by omega) hB) (hB.is) (fun v_ h3 hq_ => ?_)
  obtain ⟨hv_, w1, w2⟩ := hq_; cases hv_
  obtain ⟨ow', z1, z2⟩ := hS.txt (m := m) hx0 hm w1 (fun a e n1 _ ha => w2 a e n1 ha) (Or.inl rfl) (by omega)
  refine x_iload_n (M := mX0_clearText) (pc := 16) dX0_clearText_16 rfl ?_
  refine x_iret (M := mX0_clearText) (pc := 17) dX0_clearText_17 rfl (by first | exact Nat.le_of_ble_eq_true rfl | omega) (by first | exact Nat.le_of_ble_eq_true rfl | omega) ?_
  exact ⟨rfl, ow', hd, tb, z1, z2⟩
theorem pb_append (hh : xH) (ow : Nat → Option Nat) (cb dq arr hd sb tb len m d : Nat) (hd7 : 7 ≤ d) (tx : Nat → Nat) (x : HE) (hs : List HE) (y : Int32) (hS : ST g hh ow cb dq arr hd sb tb len tx x hs) (hm : m ≠ sb) : Ct g l mX0_append d 1 1000 [.ref cb, .int y] hh (fun o h' => if bIn y 1 255 = false then o = .inl (some (.int (-1))) ∧ TXS g hh ow cb dq arr sb m x hs len tx h' else if len = 120 then o = .inl (some (.int (-3))) ∧ TXS g hh ow cb dq arr sb m x hs len tx h' else o = .inl (some (.int (nI (len + 1)))) ∧ TXS g hh ow cb dq arr sb m x hs (len + 1) (fun k => if k = len then y.toNatClampNeg else tx k) h') := by
  have hcb := hS.1
  have hB := hS.2.2.2.2.2.1
  have hl := hS.2.2.2.2.2.2.2.2
  refine Ct.of [some (.ref cb), some (.int y)] (by decide +kernel) rfl (Nat.le_of_ble_eq_true rfl) rfl rfl ?_
  refine x_cst (M := mX0_append) (pc := 0) (fun _ _ _ hx0 => ?_)
  refine x_iload_n (M := mX0_append) (pc := 0) dX0_append_0 rfl ?_
  refine x_iconst (M := mX0_append) (pc := 1) (v := nI 1) dX0_append_1 (by decide) ?_
  refine x_sipush (M := mX0_append) (pc := 2) (v := nI 255) dX0_append_2 (by decide) ?_
  refine x_S3 (M := mX0_append) (pc := 5) (M' := mX0_isIn) q418 kSX0_isIn dX0_append_5 (c_isIn hh y 1 255 (d - 1)) (fun v_ h2 hq_ => ?_)
  obtain ⟨hv_, he_⟩ := hq_; cases hv_; subst he_
  refine x_ifB_ne (M := mX0_append) (pc := 8) 13 dX0_append_8 (by decide) (fun c => ?_) (fun c => ?_)
  · obtain ⟨n, rfl, hn1, hn⟩ := bIn_n (a := 1) (b := 255) (by omega) (by omega) c
    rw [c]
    simp only [Bool.true_eq_false, if_false]
    rw [show (nI n).toNatClampNeg = n from nI_clamp (by omega)]
    refine x_aload_n (M := mX0_append) (pc := 13) dX0_append_13 rfl ?_
    refine x_get (M := mX0_append) (pc := 14) kcX0 2 rfl q370 dX0_append_14 (by first | assumption | exact xu_s _ _ _ | exact (xu_n (by first | assumption | exact Ne.symm (by assumption) | exact xu_fresh (by assumption) (by assumption) | exact (xu_fresh (by assumption) (by assumption)).symm)).trans (by first | assumption | exact xu_s _ _ _ | exact (xu_n (by first | assumption | exact Ne.symm (by assumption) | exact xu_fresh (by assumption) (by assumption) | exact (xu_fresh (by assumption) (by assumption)).symm)).trans (by first | assumption | exact xu_s _ _ _ | exact (xu_n (by first | assumption | exact Ne.symm (by assumption) | exact xu_fresh (by assumption) (by assumption) | exact (xu_fresh (by assumption) (by assumption)).symm)).trans (by first | assumption | exact xu_s _ _ _)))) rfl ?_
    refine x_V0 (M := mX0_append) (pc := 17) (M' := mJ5_length) q1611 kVJ5_length dX0_append_17 (j_sbLen h2 sb tb len (d - 1) tx (by omega) hB) (hB.is) (fun v_ h3 hq_ => ?_)
    obtain ⟨hv_, he_⟩ := hq_; cases hv_; subst he_
    refine x_bipush (M := mX0_append) (pc := 20) (v := nI 120) dX0_append_20 (by decide) ?_
    first | with_reducible refine x_icmp_neN (M := mX0_append) (pc := 22) 28 dX0_append_22 (by decide) (by omega) (by omega) (fun c22 => ?_) (fun c22 => ?_) | refine x_icmp_ne (M := mX0_append) (pc := 22) 28 dX0_append_22 (by decide) (fun c22 => ?_) (fun c22 => ?_)
    rotate_left
    rotate_left
    · simp only [if_neg c22]
      refine x_aload_n (M := mX0_append) (pc := 28) dX0_append_28 rfl ?_
      refine x_get (M := mX0_append) (pc := 29) kcX0 2 rfl q370 dX0_append_29 (by first | assumption | exact xu_s _ _ _ | exact (xu_n (by first | assumption | exact Ne.symm (by assumption) | exact xu_fresh (by assumption) (by assumption) | exact (xu_fresh (by assumption) (by assumption)).symm)).trans (by first | assumption | exact xu_s _ _ _ | exact (xu_n (by first | assumption | exact Ne.symm (by assumption) | exact xu_fresh (by assumption) (by assumption) | exact (xu_fresh (by assumption) (by assumption)).symm)).trans (by first | assumption | exact xu_s _ _ _ | exact (xu_n (by first | assumption | exact Ne.symm (by assumption) | exact xu_fresh (by assumption) (by assumption) | exact (xu_fresh (by assumption) (by assumption)).symm)).trans (by first | assumption | exact xu_s _ _ _)))) rfl ?_
      refine x_iload_n (M := mX0_append) (pc := 32) dX0_append_32 rfl ?_
      refine x_i2c (M := mX0_append) (pc := 33) dX0_append_33 rfl ?_
      refine x_val (M := mX0_append) (pc := 34) ((char_all (show n < 256 by omega)).2.1) ?_
      refine x_V1 (M := mX0_append) (pc := 34) (M' := mJ5_append) q1618 kVJ5_append dX0_append_34 (j_sbAppend h3 sb tb len n (d - 1) tx (by omega) hB (by omega) (by omega)) (hB.is) (fun v_ h4 hq_ => ?_)
      obtain ⟨hv_, tb', w1, w2, w3⟩ := hq_; cases hv_
      obtain ⟨ow', z1, z2⟩ := hS.txt (m := m) hx0 hm w1 w2 w3 (by omega)
      have hcb4 := z1.1
      refine x_pop (M := mX0_append) (pc := 37) dX0_append_37 ?_
      refine x_aload_n (M := mX0_append) (pc := 38) dX0_append_38 rfl ?_
      refine x_get (M := mX0_append) (pc := 39) kcX0 2 rfl q370 dX0_append_39 (by first | assumption | exact xu_s _ _ _ | exact (xu_n (by first | assumption | exact Ne.symm (by assumption) | exact xu_fresh (by assumption) (by assumption) | exact (xu_fresh (by assumption) (by assumption)).symm)).trans (by first | assumption | exact xu_s _ _ _ | exact (xu_n (by first | assumption | exact Ne.symm (by assumption) | exact xu_fresh (by assumption) (by assumption) | exact (xu_fresh (by assumption) (by assumption)).symm)).trans (by first | assumption | exact xu_s _ _ _ | exact (xu_n (by first | assumption | exact Ne.symm (by assumption) | exact xu_fresh (by assumption) (by assumption) | exact (xu_fresh (by assumption) (by assumption)).symm)).trans (by first | assumption | exact xu_s _ _ _)))) rfl ?_
      refine x_V0 (M := mX0_append) (pc := 42) (M' := mJ5_length) q1611 kVJ5_length dX0_append_42 (j_sbLen h4 sb tb' (len + 1) (d - 1) _ (by omega) w1) (w1.is) (fun v_ h5 hq_ => ?_)
      obtain ⟨hv_, he_⟩ := hq_; cases hv_; subst he_
      refine x_iret (M := mX0_append) (pc := 45) dX0_append_45 rfl (by first | exact Nat.le_of_ble_eq_true rfl | omega) (by first | exact Nat.le_of_ble_eq_true rfl | omega) ?_
      exact ⟨rfl, ow', hd, tb', z1, z2⟩
    · simp only [if_pos c22]
      refine x_bipush (M := mX0_append) (pc := 25) (v := (-3)) dX0_append_25 (by decide) ?_
      refine x_iret (M := mX0_append) (pc := 27) dX0_append_27 rfl (by first | exact Nat.le_of_ble_eq_true rfl | omega) (by first | exact Nat.le_of_ble_eq_true rfl | omega) ?_
      exact ⟨rfl, ow, hd, tb, hS, KP.le xle.rf⟩
  · rw [c]
    refine x_iconst (M := mX0_append) (pc := 11) (v := (-1)) dX0_append_11 (by decide) ?_
    refine x_iret (M := mX0_append) (pc := 12) dX0_append_12 rfl (by first | exact Nat.le_of_ble_eq_true rfl | omega) (by first | exact Nat.le_of_ble_eq_true rfl | omega) ?_
    exact ⟨rfl, ow, hd, tb, hS, KP.le xle.rf⟩
end TEXT

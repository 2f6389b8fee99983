/-! undo -/
section UNDO
set_option maxRecDepth 100000
variable {g : xG} {l : Launch} {h h0 h' : xH}
theorem ST.und {h1 : xH} {ow : Nat → Option Nat} {cb dq arr hd sb tb len m : Nat} {tx : Nat → Nat} {x y : HE} {hs : List HE} (hS : ST g h ow cb dq arr hd sb tb len tx x (hs ++ [y])) (hx : h (xca g 0 0) = none) (hm : m ≠ dq) (hm2 : m ≠ cb) (hD1 : DQ g h1 dq arr hd (hs.map (fun y => y.1))) (hl : xle2 dq arr h h1) :
    ST g (xu h1 cb (.inr (0, [.ref y.1, .ref dq, .ref sb]))) ow cb dq arr hd sb tb len tx y hs ∧ KP ow m h ow (xu h1 cb (.inr (0, [.ref y.1, .ref dq, .ref sb]))) := by
  obtain ⟨h1_, hdk, nd1, nd2, hD, hSB, ⟨o1, o2, o3, o4, o5⟩, hlen, hl120⟩ := hS
  have hdq := hD.1
  obtain ⟨-, -, -, -, fa, harr, -⟩ := id hD
  obtain ⟨ml, cap, ff, -, s1, s2, -⟩ := id hSB
  have ncd : dq ≠ cb := fun z => by rw [z, h1_] at hdq; cases hdq
  have nca : arr ≠ cb := fun z => by rw [z, h1_] at harr; cases harr
  have K : ∀ a e, h a = some e → ow a ≠ some dq → ow a ≠ some cb → (xu h1 cb (.inr (0, [.ref y.1, .ref dq, .ref sb]))) a = some e := fun a e ha hn hc => (xu_n (fun z => hc (by rw [z]; exact o1))).trans (hl a e (fun z => hn (by rw [z]; exact o2)) (fun z => hn (by rw [z]; exact o3)) ha)
  have nb1 : some sb ≠ some dq := fun w => by rw [Option.some.inj w, hdq] at s1; cases s1
  have nb2 : some sb ≠ some cb := fun w => by rw [Option.some.inj w, h1_] at s1; cases s1
  have hsub : ∀ z ∈ y :: hs, z ∈ x :: (hs ++ [y]) := fun z hz => by
    rcases List.mem_cons.mp hz with r | r
    · rw [r]; simp
    · simp [r]
  refine ⟨⟨xu_s _ _ _, fun z hz => ?_, ?_, ?_, hD1.le2 (fun e he => (xu_n ncd).trans he) (fun e he => (xu_n nca).trans he), hSB.le2 (fun e he => K _ _ he (by rw [o4]; exact nb1) (by rw [o4]; exact nb2)) (fun e he => K _ _ he (by rw [o5]; exact nb1) (by rw [o5]; exact nb2)), ⟨o1, o2, o3, o4, o5⟩, by rw [List.length_append] at hlen; omega, hl120⟩, fun a e ha hq => K a e ha (by rw [hq]; exact fun z => hm (Option.some.inj z)) (by rw [hq]; exact fun z => hm2 (Option.some.inj z)), fun _ _ => rfl⟩
  · have hyD := hdk z (hsub z hz)
    obtain ⟨⟨sl, f, e1, -, -, -, ⟨P, zs, zt, hP, -⟩, -⟩, -⟩ := id hyD
    have hP1 := hP.1
    unfold shE at hP1
    have a1 : z.1 ≠ dq := fun w => by rw [w, hdq] at e1; cases e1
    have a2 : z.1 ≠ cb := fun w => by rw [w, h1_] at e1; cases e1
    have a3 : z.2.1 ≠ dq := fun w => by rw [w, hdq] at hP1; cases hP1
    have a4 : z.2.1 ≠ cb := fun w => by rw [w, h1_] at hP1; cases hP1
    refine ⟨hyD.1.kp hx (fun a e ha q => ?_) (fun _ _ => rfl), hyD.2⟩
    rcases q with q | q | q | q
    · exact K a e ha (by rw [q]; exact fun w => a1 (Option.some.inj w)) (by rw [q]; exact fun w => a2 (Option.some.inj w))
    · exact K a e ha (by rw [q]; exact fun w => a3 (Option.some.inj w)) (by rw [q]; exact fun w => a4 (Option.some.inj w))
    · exact K a e ha (by rw [q]; simp) (by rw [q]; simp)
    · refine (xu_n (fun w => ?_)).trans (hl a e (fun w => ?_) (fun w => ?_) ha)
      · rw [w, h1_] at ha; cases ha; cases q
      · rw [w, hdq] at ha; cases ha; cases q
      · rw [w, harr] at ha; cases ha; cases q
  · have := (List.nodup_cons.mp nd1).2
    rw [List.map_append, List.nodup_append] at this
    rw [List.map_cons, List.nodup_cons]
    exact ⟨fun w => this.2.2 _ w _ (by simp) rfl, this.1⟩
  · have := (List.nodup_cons.mp nd2).2
    rw [List.map_append, List.nodup_append] at this
    rw [List.map_cons, List.nodup_cons]
    exact ⟨fun w => this.2.2 _ w _ (by simp) rfl, this.1⟩
theorem pb_undo0 (h : xH) (ow : Nat → Option Nat) (cb dq arr hd sb tb len d : Nat) (hd3 : 3 ≤ d) (tx : Nat → Nat) (x : HE) (hS : ST g h ow cb dq arr hd sb tb len tx x []) : Ct g l mX0_undo d 0 0 [.ref cb] h (fun o h' => o = .inl (some (.int (-2))) ∧ h' = h) := by
  have hcb := hS.1
  have hD := hS.2.2.2.2.1
  refine Ct.of [some (.ref cb)] (by decide +kernel) rfl (Nat.le_of_ble_eq_true rfl) rfl rfl ?_
  refine x_aload_n (M := mX0_undo) (pc := 0) dX0_undo_0 rfl ?_
  refine x_get (M := mX0_undo) (pc := 1) kcX0 1 rfl q369 dX0_undo_1 (by first | assumption | exact xu_s _ _ _ | exact (xu_n (by first | assumption | exact Ne.symm (by assumption) | exact xu_fresh (by assumption) (by assumption) | exact (xu_fresh (by assumption) (by assumption)).symm)).trans (by first | assumption | exact xu_s _ _ _ | exact (xu_n (by first | assumption | exact Ne.symm (by assumption) | exact xu_fresh (by assumption) (by assumption) | exact (xu_fresh (by assumption) (by assumption)).symm)).trans (by first | assumption | exact xu_s _ _ _ | exact (xu_n (by first | assumption | exact Ne.symm (by assumption) | exact xu_fresh (by assumption) (by assumption) | exact (xu_fresh (by assumption) (by assumption)).symm)).trans (by first | assumption | exact xu_s _ _ _)))) rfl ?_
  refine x_V0 (M := mX0_undo) (pc := 4) (M' := mJ3_isEmpty) q1595 kVJ3_isEmpty dX0_undo_4 (j_dqIsEmpty h dq arr hd (d - 1) _ hD) (hD.is) (fun v_ h hq_ => ?_)
  obtain ⟨hv_, rfl⟩ := hq_; cases hv_
  first | with_reducible refine x_ifB_eq (M := mX0_undo) (pc := 7) 13 dX0_undo_7 (by decide) (fun c7 => ?_) (fun c7 => ?_) | with_reducible refine x_if_eqN (M := mX0_undo) (pc := 7) 13 dX0_undo_7 (by decide) (by omega) (fun c7 => ?_) (fun c7 => ?_) | refine x_if_eq (M := mX0_undo) (pc := 7) 13 dX0_undo_7 (by decide) (fun c7 => ?_) (fun c7 => ?_)
  · simp at c7
  · refine x_bipush (M := mX0_undo) (pc := 10) (v := (-2)) dX0_undo_10 (by decide) ?_
    refine x_iret (M := mX0_undo) (pc := 12) dX0_undo_12 rfl (by first | exact Nat.le_of_ble_eq_true rfl | omega) (by first | exact Nat.le_of_ble_eq_true rfl | omega) ?_
    exact ⟨rfl, rfl⟩
theorem pb_undo (hh : xH) (ow : Nat → Option Nat) (cb dq arr hd sb tb len m d : Nat) (hd3 : 4 ≤ d) (tx : Nat → Nat) (x y : HE) (hs : List HE) (hS : ST g hh ow cb dq arr hd sb tb len tx x (hs ++ [y])) (hm1 : m ≠ dq) (hm2 : m ≠ cb) : Ct g l mX0_undo d 0 0 [.ref cb] hh (fun o h' => o = .inl (some (.int (nI hs.length))) ∧ ST g h' ow cb dq arr hd sb tb len tx y hs ∧ KP ow m hh ow h') := by
  have hcb := hS.1
  have hD := hS.2.2.2.2.1
  have hDy : ∃ fs, hh y.1 = some (.inr (1, fs)) := by obtain ⟨⟨sl, f, e1, -⟩, -⟩ := hS.2.1 y (by simp); exact ⟨_, e1⟩
  obtain ⟨fsy, hDy⟩ := hDy
  refine Ct.of [some (.ref cb)] (by decide +kernel) rfl (Nat.le_of_ble_eq_true rfl) rfl rfl ?_
  refine x_cst (M := mX0_undo) (pc := 0) (fun _ _ _ hx0 => ?_)
  refine x_aload_n (M := mX0_undo) (pc := 0) dX0_undo_0 rfl ?_
  refine x_get (M := mX0_undo) (pc := 1) kcX0 1 rfl q369 dX0_undo_1 (by first | assumption | exact xu_s _ _ _ | exact (xu_n (by first | assumption | exact Ne.symm (by assumption) | exact xu_fresh (by assumption) (by assumption) | exact (xu_fresh (by assumption) (by assumption)).symm)).trans (by first | assumption | exact xu_s _ _ _ | exact (xu_n (by first | assumption | exact Ne.symm (by assumption) | exact xu_fresh (by assumption) (by assumption) | exact (xu_fresh (by assumption) (by assumption)).symm)).trans (by first | assumption | exact xu_s _ _ _ | exact (xu_n (by first | assumption | exact Ne.symm (by assumption) | exact xu_fresh (by assumption) (by assumption) | exact (xu_fresh (by assumption) (by assumption)).symm)).trans (by first | assumption | exact xu_s _ _ _)))) rfl ?_
  refine x_V0 (M := mX0_undo) (pc := 4) (M' := mJ3_isEmpty) q1595 kVJ3_isEmpty dX0_undo_4 (j_dqIsEmpty hh dq arr hd (d - 1) _ hD) (hD.is) (fun v_ h2 hq_ => ?_)
  obtain ⟨hv_, he_⟩ := hq_; cases hv_; subst he_
  refine x_ifB_eq (M := mX0_undo) (pc := 7) 13 dX0_undo_7 (by decide) (fun c => ?_) (fun c => by simp at c)
  refine x_aload_n (M := mX0_undo) (pc := 13) dX0_undo_13 rfl ?_
  refine x_aload_n (M := mX0_undo) (pc := 14) dX0_undo_14 rfl ?_
  refine x_get (M := mX0_undo) (pc := 15) kcX0 1 rfl q369 dX0_undo_15 (by first | assumption | exact xu_s _ _ _ | exact (xu_n (by first | assumption | exact Ne.symm (by assumption) | exact xu_fresh (by assumption) (by assumption) | exact (xu_fresh (by assumption) (by assumption)).symm)).trans (by first | assumption | exact xu_s _ _ _ | exact (xu_n (by first | assumption | exact Ne.symm (by assumption) | exact xu_fresh (by assumption) (by assumption) | exact (xu_fresh (by assumption) (by assumption)).symm)).trans (by first | assumption | exact xu_s _ _ _ | exact (xu_n (by first | assumption | exact Ne.symm (by assumption) | exact xu_fresh (by assumption) (by assumption) | exact (xu_fresh (by assumption) (by assumption)).symm)).trans (by first | assumption | exact xu_s _ _ _)))) rfl ?_
  have hD' := hD
  rw [List.map_append] at hD'
  refine x_V0 (M := mX0_undo) (pc := 18) (M' := mJ3_removeLast) q1596 kVJ3_removeLast dX0_undo_18 (j_removeLast h2 dq arr hd (d - 1) y.1 (hs.map (fun y => y.1)) (by omega) hD') (hD.is) (fun v_ h3 hq_ => ?_)
  obtain ⟨hv_, w1, w2⟩ := hq_; cases hv_
  have hdq := hD.1
  obtain ⟨-, -, -, -, fa, harr, -⟩ := id hD
  have hcb3 := w2 _ _ (fun z => by rw [z, hdq] at hcb; cases hcb) (fun z => by rw [z, harr] at hcb; cases hcb) hcb
  have hy3 := w2 _ _ (fun z => by rw [z, hdq] at hDy; cases hDy) (fun z => by rw [z, harr] at hDy; cases hDy) hDy
  obtain ⟨z1, z2⟩ := hS.und (m := m) hx0 hm1 hm2 w1 w2
  have hD5 := z1.2.2.2.2.1
  refine x_cast (M := mX0_undo) (pc := 21) q163 dX0_undo_21 (xIs.of kcX1 hy3) (Or.inl rfl) ?_
  first | refine x_put0' (M := mX0_undo) (pc := 24) kcX0 q368 dX0_undo_24 ?_ | refine x_put0 (M := mX0_undo) (pc := 24) kcX0 q368 dX0_undo_24 (by first | assumption | exact xu_s _ _ _ | exact (xu_n (by first | assumption | exact Ne.symm (by assumption) | exact xu_fresh (by assumption) (by assumption) | exact (xu_fresh (by assumption) (by assumption)).symm)).trans (by first | assumption | exact xu_s _ _ _ | exact (xu_n (by first | assumption | exact Ne.symm (by assumption) | exact xu_fresh (by assumption) (by assumption) | exact (xu_fresh (by assumption) (by assumption)).symm)).trans (by first | assumption | exact xu_s _ _ _ | exact (xu_n (by first | assumption | exact Ne.symm (by assumption) | exact xu_fresh (by assumption) (by assumption) | exact (xu_fresh (by assumption) (by assumption)).symm)).trans (by first | assumption | exact xu_s _ _ _)))) ?_
  refine x_aload_n (M := mX0_undo) (pc := 27) dX0_undo_27 rfl ?_
  refine x_get (M := mX0_undo) (pc := 28) kcX0 1 rfl q369 dX0_undo_28 (by first | assumption | exact xu_s _ _ _ | exact (xu_n (by first | assumption | exact Ne.symm (by assumption) | exact xu_fresh (by assumption) (by assumption) | exact (xu_fresh (by assumption) (by assumption)).symm)).trans (by first | assumption | exact xu_s _ _ _ | exact (xu_n (by first | assumption | exact Ne.symm (by assumption) | exact xu_fresh (by assumption) (by assumption) | exact (xu_fresh (by assumption) (by assumption)).symm)).trans (by first | assumption | exact xu_s _ _ _ | exact (xu_n (by first | assumption | exact Ne.symm (by assumption) | exact xu_fresh (by assumption) (by assumption) | exact (xu_fresh (by assumption) (by assumption)).symm)).trans (by first | assumption | exact xu_s _ _ _)))) rfl ?_
  refine x_V0 (M := mX0_undo) (pc := 31) (M' := mJ3_size) q1057 kVJ3_size dX0_undo_31 (j_dqSize _ dq arr hd (d - 1) _ (by omega) hD5) (hD5.is) (fun v_ h5 hq_ => ?_)
  obtain ⟨hv_, he_⟩ := hq_; cases hv_; subst he_
  refine x_iret (M := mX0_undo) (pc := 34) dX0_undo_34 rfl (by first | exact Nat.le_of_ble_eq_true rfl | omega) (by first | exact Nat.le_of_ble_eq_true rfl | omega) ?_
  exact ⟨by rw [List.length_map], z1, z2⟩
end UNDO

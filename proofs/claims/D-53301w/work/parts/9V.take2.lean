/-! CribBooklet.take -/
section TAKE2
set_option maxRecDepth 100000
variable {g : xG} {l : Launch} {h h0 h' : xH}
theorem pb_take (hh : xH) (ow : Nat → Option Nat) (cb dq arr hd sb tb len m d : Nat) (hd16 : 16 ≤ d) (tx : Nat → Nat) (x : HE) (hs : List HE) (y : Int32) (hS : ST g hh ow cb dq arr hd sb tb len tx x hs) (hm1 : m ≠ dq) (hm2 : m ≠ x.1) :
    Ct g l mX0_take d 40 500 [.ref cb, .int y] hh (PF g hh ow cb dq arr sb tb len m tx x hs (c_take x.2.2 y)) := by
  have hcb := hS.1
  have hD0 := (hS.2.1 x (by simp))
  have hWF := hD0.2.1
  obtain ⟨⟨sl, f, d1, d2, w1, w2, ⟨P, xs, ys, hP, hOP⟩, hT⟩, hWS⟩ := id hD0
  have hkt := k_take hWS y
  refine Ct.of [some (.ref cb), some (.int y)] (by decide +kernel) rfl (Nat.le_of_ble_eq_true rfl) rfl rfl ?_
  refine x_cst (M := mX0_take) (pc := 0) (fun _ _ _ hx1 => ?_)
  refine x_iload_n (M := mX0_take) (pc := 0) dX0_take_0 rfl ?_
  refine x_S1 (M := mX0_take) (pc := 1) (M' := mX0_isBit) q1585 kSX0_isBit dX0_take_1 (c_isBit hh y (d - 1) (by omega)) (fun v_ h1 hq_ => ?_)
  obtain ⟨hv_, he_⟩ := hq_; cases hv_; subst he_
  unfold c_take at hkt ⊢
  refine x_ifB_ne (M := mX0_take) (pc := 4) 9 dX0_take_4 (by decide) (fun c => ?_) (fun c => ?_)
  · obtain ⟨n, rfl, -, hn⟩ := bIn_n (a := 0) (b := 1) (by omega) (by omega) c
    rw [c] at hkt ⊢
    simp only [Bool.true_eq_false, if_false] at hkt ⊢
    rw [show (nI n).toNatClampNeg = n from nI_clamp (by omega)] at hkt ⊢
    have hfi : ∀ j, j < 2 → ∀ q, f j = some q → xIs g h1 q "CribBooklet$Sheet" := fun j hj q hq => by
      rcases hT j hj with ⟨r1, -⟩ | ⟨q2, r1, -, ⟨P2, zs, zt, hP2, -⟩⟩
      · rw [r1] at hq; cases hq
      · rw [r1] at hq; cases hq; exact hP2.is
    refine x_aload_n (M := mX0_take) (pc := 9) dX0_take_9 rfl ?_
    refine x_aload_n (M := mX0_take) (pc := 10) dX0_take_10 rfl ?_
    refine x_get (M := mX0_take) (pc := 11) kcX0 0 rfl q368 dX0_take_11 (by first | assumption | exact xu_s _ _ _ | exact (xu_n (by first | assumption | exact Ne.symm (by assumption) | exact xu_fresh (by assumption) (by assumption) | exact (xu_fresh (by assumption) (by assumption)).symm)).trans (by first | assumption | exact xu_s _ _ _ | exact (xu_n (by first | assumption | exact Ne.symm (by assumption) | exact xu_fresh (by assumption) (by assumption) | exact (xu_fresh (by assumption) (by assumption)).symm)).trans (by first | assumption | exact xu_s _ _ _ | exact (xu_n (by first | assumption | exact Ne.symm (by assumption) | exact xu_fresh (by assumption) (by assumption) | exact (xu_fresh (by assumption) (by assumption)).symm)).trans (by first | assumption | exact xu_s _ _ _)))) rfl ?_
    refine x_V0 (M := mX0_take) (pc := 14) (M' := mX1_copy) q641 kVX1_copy dX0_take_14 (c_deskCopy h1 x.1 x.2.1 sl (d - 1) (by omega) f P x.2.2 xs ys hWF d1 d2 hfi hP) (xIs.of kcX1 d1) (fun v_ h2 hq_ => ?_)
    obtain ⟨q, q', sl', P', f', hv_, c1, c2, cf, c3, c4, c5, c6, c7, c8, c9, hl2⟩ := hq_; cases hv_
    refine x_cst (M := mX0_take) (pc := 17) (fun _ _ _ hx2 => ?_)
    have hDQ1 := hS.2.2.2.2.1
    refine x_V1 (M := mX0_take) (pc := 17) (M' := mX0_remember) q1053 kVX0_remember dX0_take_17 (c_remember h2 cb dq arr hd (d - 1) q (by omega) _ _ (hs.map (fun y => y.1)) (hl2 _ _ hcb) (hDQ1.le2 (hl2 _) (hl2 _)) (by rw [List.length_map]; exact hS.2.2.2.2.2.2.2.1) (by rw [c1]; simp) ⟨_, c1⟩) (xIs.of kcX0 (hl2 _ _ hcb)) (fun v_ h3 hq_ => ?_)
    obtain ⟨hv_, hd', hD3, hl3⟩ := hq_; cases hv_
    rw [rmH_map] at hD3
    obtain ⟨ow3, hS3, hK3⟩ := hS.rem (m := m) hx1 hx2 hm1 (fun sl2 f2 e1 e2 => by rw [d1] at e1; cases e1; rw [d2] at e2; cases e2; exact cf) c1 c2 c3 c4 c5 c6 c7 c8 c9 hl2 hD3 hl3
    refine x_cst (M := mX0_take) (pc := 20) (fun _ _ _ hx3 => ?_)
    have hcb3 := hS3.1
    obtain ⟨⟨sl3, f3, e1, e2, u1, u2, ⟨P3, xs3, ys3, hP3, hO3⟩, hT3⟩, -⟩ := hS3.2.1 x (by simp)
    refine x_aload_n (M := mX0_take) (pc := 20) dX0_take_20 rfl ?_
    refine x_get (M := mX0_take) (pc := 21) kcX0 0 rfl q368 dX0_take_21 (by first | assumption | exact xu_s _ _ _ | exact (xu_n (by first | assumption | exact Ne.symm (by assumption) | exact xu_fresh (by assumption) (by assumption) | exact (xu_fresh (by assumption) (by assumption)).symm)).trans (by first | assumption | exact xu_s _ _ _ | exact (xu_n (by first | assumption | exact Ne.symm (by assumption) | exact xu_fresh (by assumption) (by assumption) | exact (xu_fresh (by assumption) (by assumption)).symm)).trans (by first | assumption | exact xu_s _ _ _ | exact (xu_n (by first | assumption | exact Ne.symm (by assumption) | exact xu_fresh (by assumption) (by assumption) | exact (xu_fresh (by assumption) (by assumption)).symm)).trans (by first | assumption | exact xu_s _ _ _)))) rfl ?_
    refine x_getN (M := mX0_take) (pc := 24) kcX1 1 rfl q310 dX0_take_24 (by first | assumption | exact xu_s _ _ _ | exact (xu_n (by first | assumption | exact Ne.symm (by assumption) | exact xu_fresh (by assumption) (by assumption) | exact (xu_fresh (by assumption) (by assumption)).symm)).trans (by first | assumption | exact xu_s _ _ _ | exact (xu_n (by first | assumption | exact Ne.symm (by assumption) | exact xu_fresh (by assumption) (by assumption) | exact (xu_fresh (by assumption) (by assumption)).symm)).trans (by first | assumption | exact xu_s _ _ _ | exact (xu_n (by first | assumption | exact Ne.symm (by assumption) | exact xu_fresh (by assumption) (by assumption) | exact (xu_fresh (by assumption) (by assumption)).symm)).trans (by first | assumption | exact xu_s _ _ _)))) rfl ?_
    refine x_iload_n (M := mX0_take) (pc := 27) dX0_take_27 rfl ?_
    refine x_aload_n (M := mX0_take) (pc := 28) dX0_take_28 rfl ?_
    refine x_get (M := mX0_take) (pc := 29) kcX0 0 rfl q368 dX0_take_29 (by first | assumption | exact xu_s _ _ _ | exact (xu_n (by first | assumption | exact Ne.symm (by assumption) | exact xu_fresh (by assumption) (by assumption) | exact (xu_fresh (by assumption) (by assumption)).symm)).trans (by first | assumption | exact xu_s _ _ _ | exact (xu_n (by first | assumption | exact Ne.symm (by assumption) | exact xu_fresh (by assumption) (by assumption) | exact (xu_fresh (by assumption) (by assumption)).symm)).trans (by first | assumption | exact xu_s _ _ _ | exact (xu_n (by first | assumption | exact Ne.symm (by assumption) | exact xu_fresh (by assumption) (by assumption) | exact (xu_fresh (by assumption) (by assumption)).symm)).trans (by first | assumption | exact xu_s _ _ _)))) rfl ?_
    refine x_getN (M := mX0_take) (pc := 32) kcX1 0 rfl q308 dX0_take_32 (by first | assumption | exact xu_s _ _ _ | exact (xu_n (by first | assumption | exact Ne.symm (by assumption) | exact xu_fresh (by assumption) (by assumption) | exact (xu_fresh (by assumption) (by assumption)).symm)).trans (by first | assumption | exact xu_s _ _ _ | exact (xu_n (by first | assumption | exact Ne.symm (by assumption) | exact xu_fresh (by assumption) (by assumption) | exact (xu_fresh (by assumption) (by assumption)).symm)).trans (by first | assumption | exact xu_s _ _ _ | exact (xu_n (by first | assumption | exact Ne.symm (by assumption) | exact xu_fresh (by assumption) (by assumption) | exact (xu_fresh (by assumption) (by assumption)).symm)).trans (by first | assumption | exact xu_s _ _ _)))) rfl ?_
    refine x_V0 (M := mX0_take) (pc := 35) (M' := mX2_copy) q1586 kVX2_copy dX0_take_35 (c_copy h3 x.2.1 (d - 1) (by omega) P3 x.2.2 xs3 ys3 hWF hP3) (hP3.is) (fun v_ h4 hq_ => ?_)
    obtain ⟨r, R', hv_, r1, r2, r3, r4, r5, r6⟩ := hq_; cases hv_
    refine x_cst (M := mX0_take) (pc := 38) (fun _ _ _ hx4 => ?_)
    obtain ⟨ow4, hS4, hK4⟩ := hS3.take (m := m) (n := n) (s' := fun k => if 156 + 154 * n ≤ k ∧ k < 156 + 154 * n + 154 then x.2.2 (k - (156 + 154 * n)) else if k = 154 + n then 1 else x.2.2 k) hx3 hx4 hm2 (by omega) e1 e2 r1 r2 r3 r4 r5 r6 (hkt _ _ rfl) (fun k hk => by rw [if_neg (by omega), if_neg (by omega)]) (by rw [if_neg (by omega), if_pos rfl]) (fun k hk => by rw [if_pos (by omega), Nat.add_sub_cancel_left]) (fun j hj hjn => ⟨by rw [if_neg (by omega), if_neg (by omega)], fun k hk => by rw [if_neg (by omega), if_neg (by omega)]⟩)
    have e2' := r6 _ _ e2
    refine x_aastN (M := mX0_take) (pc := 38) (C := "CribBooklet$Sheet") (E := "CribBooklet$Sheet") n dX0_take_38 e2' r1.is (Or.inl rfl) rfl (by omega) (by omega) ?_
    have hcb5 := hS4.1
    obtain ⟨⟨sl5, f5, g1, g2, -, -, ⟨P5, xs5, ys5, hP5, -⟩, -⟩, -⟩ := hS4.2.1 _ (List.mem_cons_self ..)
    have hsh5 := hP5.1
    unfold shE at hsh5
    refine x_aload_n (M := mX0_take) (pc := 39) dX0_take_39 rfl ?_
    refine x_get (M := mX0_take) (pc := 40) kcX0 0 rfl q368 dX0_take_40 (by first | assumption | exact xu_s _ _ _ | exact (xu_n (by first | assumption | exact Ne.symm (by assumption) | exact xu_fresh (by assumption) (by assumption) | exact (xu_fresh (by assumption) (by assumption)).symm)).trans (by first | assumption | exact xu_s _ _ _ | exact (xu_n (by first | assumption | exact Ne.symm (by assumption) | exact xu_fresh (by assumption) (by assumption) | exact (xu_fresh (by assumption) (by assumption)).symm)).trans (by first | assumption | exact xu_s _ _ _ | exact (xu_n (by first | assumption | exact Ne.symm (by assumption) | exact xu_fresh (by assumption) (by assumption) | exact (xu_fresh (by assumption) (by assumption)).symm)).trans (by first | assumption | exact xu_s _ _ _)))) rfl ?_
    refine x_getN (M := mX0_take) (pc := 43) kcX1 0 rfl q308 dX0_take_43 (by first | assumption | exact xu_s _ _ _ | exact (xu_n (by first | assumption | exact Ne.symm (by assumption) | exact xu_fresh (by assumption) (by assumption) | exact (xu_fresh (by assumption) (by assumption)).symm)).trans (by first | assumption | exact xu_s _ _ _ | exact (xu_n (by first | assumption | exact Ne.symm (by assumption) | exact xu_fresh (by assumption) (by assumption) | exact (xu_fresh (by assumption) (by assumption)).symm)).trans (by first | assumption | exact xu_s _ _ _ | exact (xu_n (by first | assumption | exact Ne.symm (by assumption) | exact xu_fresh (by assumption) (by assumption) | exact (xu_fresh (by assumption) (by assumption)).symm)).trans (by first | assumption | exact xu_s _ _ _)))) rfl ?_
    refine x_getN (M := mX0_take) (pc := 46) kcX2 3 rfl q226 dX0_take_46 (by first | assumption | exact xu_s _ _ _ | exact (xu_n (by first | assumption | exact Ne.symm (by assumption) | exact xu_fresh (by assumption) (by assumption) | exact (xu_fresh (by assumption) (by assumption)).symm)).trans (by first | assumption | exact xu_s _ _ _ | exact (xu_n (by first | assumption | exact Ne.symm (by assumption) | exact xu_fresh (by assumption) (by assumption) | exact (xu_fresh (by assumption) (by assumption)).symm)).trans (by first | assumption | exact xu_s _ _ _ | exact (xu_n (by first | assumption | exact Ne.symm (by assumption) | exact xu_fresh (by assumption) (by assumption) | exact (xu_fresh (by assumption) (by assumption)).symm)).trans (by first | assumption | exact xu_s _ _ _)))) rfl ?_
    refine x_iret (M := mX0_take) (pc := 49) dX0_take_49 rfl (by first | exact Nat.le_of_ble_eq_true rfl | omega) (by first | exact Nat.le_of_ble_eq_true rfl | omega) ?_
    refine ⟨?_, ow4, hd', q, q', hS4, hK3.tr hK4 (fun p hp => ?_)⟩
    · rw [show zNf (fun k => if 156 + 154 * n ≤ k ∧ k < 156 + 154 * n + 154 then x.2.2 (k - (156 + 154 * n)) else if k = 154 + n then 1 else x.2.2 k) = zNf x.2.2 from zN_c (by rw [if_neg (by omega), if_neg (by omega)]), ← hWF.1.2.2.1]
    · have hp2 := nn_le hl2 p hp
      by_cases z1 : p = dq
      · have := hS3.2.2.2.2.1.1; rw [z1, this]; simp
      · by_cases z2 : p = arr
        · obtain ⟨-, -, -, -, fa, harr, -⟩ := hS3.2.2.2.2.1; rw [z2, harr]; simp
        · cases e : h2 p with
          | none => exact absurd e hp2
          | some e' => rw [hl3 p e' z1 z2 e]; simp
  · rw [c]
    refine x_iconst (M := mX0_take) (pc := 7) (v := (-1)) dX0_take_7 (by decide) ?_
    refine x_iret (M := mX0_take) (pc := 8) dX0_take_8 rfl (by first | exact Nat.le_of_ble_eq_true rfl | omega) (by first | exact Nat.le_of_ble_eq_true rfl | omega) ?_
    exact ⟨rfl, ow, hd, hS, KP.le xle.rf⟩
end TAKE2

/-! CribBooklet.restore -/
section RESTORE2
set_option maxRecDepth 100000
variable {g : xG} {l : Launch} {h h0 h' : xH}
/-- how restore ends: the desk has another sheet -/
def PFR (g : xG) (hh : xH) (ow : Nat → Option Nat) (cb dq arr sb tb len m : Nat) (tx : Nat → Nat) (x : HE) (hs : List HE) (res : CRes) (o : xO) (h' : xH) : Prop := match res with
  | .inl e => o = .inl (some (.int e)) ∧ ∃ ow' hd, ST g h' ow' cb dq arr hd sb tb len tx x hs ∧ KP ow m hh ow' h'
  | .inr r => o = .inl (some (.int r.1)) ∧ ∃ ow' hd sh' q q', ST g h' ow' cb dq arr hd sb tb len tx (x.1, sh', r.2) (rmH hs ++ [(q, q', x.2.2)]) ∧ KP ow m hh ow' h'
theorem pb_restore (hh : xH) (ow : Nat → Option Nat) (cb dq arr hd sb tb len m d : Nat) (hd16 : 16 ≤ d) (tx : Nat → Nat) (x : HE) (hs : List HE) (y : Int32) (hS : ST g hh ow cb dq arr hd sb tb len tx x hs) (hm1 : m ≠ dq) (hm2 : m ≠ x.1) :
    Ct g l mX0_restore d 40 500 [.ref cb, .int y] hh (PFR g hh ow cb dq arr sb tb len m tx x hs (c_restore x.2.2 y)) := by
  have hcb := hS.1
  have hD0 := (hS.2.1 x (by simp))
  have hWF := hD0.2.1
  obtain ⟨⟨sl, f, d1, d2, w1, w2, ⟨P, xs, ys, hP, hOP⟩, hT⟩, hWS⟩ := id hD0
  have hkt := k_restore hWS y
  refine Ct.of [some (.ref cb), some (.int y)] (by decide +kernel) rfl (Nat.le_of_ble_eq_true rfl) rfl rfl ?_
  refine x_cst (M := mX0_restore) (pc := 0) (fun _ _ _ hx1 => ?_)
  refine x_iload_n (M := mX0_restore) (pc := 0) dX0_restore_0 rfl ?_
  refine x_S1 (M := mX0_restore) (pc := 1) (M' := mX0_isBit) q1585 kSX0_isBit dX0_restore_1 (c_isBit hh y (d - 1) (by omega)) (fun v_ h1 hq_ => ?_)
  obtain ⟨hv_, he_⟩ := hq_; cases hv_; subst he_
  unfold c_restore at hkt ⊢
  refine x_ifB_ne (M := mX0_restore) (pc := 4) 9 dX0_restore_4 (by decide) (fun c => ?_) (fun c => ?_)
  · obtain ⟨n, rfl, -, hn⟩ := bIn_n (a := 0) (b := 1) (by omega) (by omega) c
    rw [c] at hkt ⊢
    simp only [Bool.true_eq_false, if_false] at hkt ⊢
    rw [show (nI n).toNatClampNeg = n from nI_clamp (by omega)] at hkt ⊢
    refine x_aload_n (M := mX0_restore) (pc := 9) dX0_restore_9 rfl ?_
    refine x_get (M := mX0_restore) (pc := 10) kcX0 0 rfl q368 dX0_restore_10 (by first | assumption | exact xu_s _ _ _ | exact (xu_n (by first | assumption | exact Ne.symm (by assumption) | exact xu_fresh (by assumption) (by assumption) | exact (xu_fresh (by assumption) (by assumption)).symm)).trans (by first | assumption | exact xu_s _ _ _ | exact (xu_n (by first | assumption | exact Ne.symm (by assumption) | exact xu_fresh (by assumption) (by assumption) | exact (xu_fresh (by assumption) (by assumption)).symm)).trans (by first | assumption | exact xu_s _ _ _ | exact (xu_n (by first | assumption | exact Ne.symm (by assumption) | exact xu_fresh (by assumption) (by assumption) | exact (xu_fresh (by assumption) (by assumption)).symm)).trans (by first | assumption | exact xu_s _ _ _)))) rfl ?_
    refine x_getN (M := mX0_restore) (pc := 13) kcX1 1 rfl q310 dX0_restore_13 (by first | assumption | exact xu_s _ _ _ | exact (xu_n (by first | assumption | exact Ne.symm (by assumption) | exact xu_fresh (by assumption) (by assumption) | exact (xu_fresh (by assumption) (by assumption)).symm)).trans (by first | assumption | exact xu_s _ _ _ | exact (xu_n (by first | assumption | exact Ne.symm (by assumption) | exact xu_fresh (by assumption) (by assumption) | exact (xu_fresh (by assumption) (by assumption)).symm)).trans (by first | assumption | exact xu_s _ _ _ | exact (xu_n (by first | assumption | exact Ne.symm (by assumption) | exact xu_fresh (by assumption) (by assumption) | exact (xu_fresh (by assumption) (by assumption)).symm)).trans (by first | assumption | exact xu_s _ _ _)))) rfl ?_
    refine x_iload_n (M := mX0_restore) (pc := 16) dX0_restore_16 rfl ?_
    refine x_aaldN (M := mX0_restore) (pc := 17) _ dX0_restore_17 (by first | assumption | exact xu_s _ _ _ | exact (xu_n (by first | assumption | exact Ne.symm (by assumption) | exact xu_fresh (by assumption) (by assumption) | exact (xu_fresh (by assumption) (by assumption)).symm)).trans (by first | assumption | exact xu_s _ _ _ | exact (xu_n (by first | assumption | exact Ne.symm (by assumption) | exact xu_fresh (by assumption) (by assumption) | exact (xu_fresh (by assumption) (by assumption)).symm)).trans (by first | assumption | exact xu_s _ _ _ | exact (xu_n (by first | assumption | exact Ne.symm (by assumption) | exact xu_fresh (by assumption) (by assumption) | exact (xu_fresh (by assumption) (by assumption)).symm)).trans (by first | assumption | exact xu_s _ _ _)))) (by first | rfl | assumption) (by first | assumption | omega) (by first | decide | omega) (rfl) ?_
    rcases hT n (by omega) with ⟨t1, t2⟩ | ⟨q0, t1, t2, t3⟩
    · rw [t1, if_pos t2]
      refine x_ifnonnullN (M := mX0_restore) (pc := 18) dX0_restore_18 ?_
      refine x_bipush (M := mX0_restore) (pc := 21) (v := (-2)) dX0_restore_21 (by decide) ?_
      refine x_iret (M := mX0_restore) (pc := 23) dX0_restore_23 rfl (by first | exact Nat.le_of_ble_eq_true rfl | omega) (by first | exact Nat.le_of_ble_eq_true rfl | omega) ?_
      exact ⟨rfl, ow, hd, hS, KP.le xle.rf⟩
    · have tn : ¬ x.2.2 (154 + n) = 0 := by rw [t2]; decide
      rw [if_neg tn] at hkt
      rw [t1, if_neg tn]
      refine x_ifnonnullR (M := mX0_restore) (pc := 18) 24 dX0_restore_18 (by decide) ?_
      have hfi : ∀ j, j < 2 → ∀ q, f j = some q → xIs g h1 q "CribBooklet$Sheet" := fun j hj q hq => by
        rcases hT j hj with ⟨r1, -⟩ | ⟨q2, r1, -, ⟨P2, zs, zt, hP2, -⟩⟩
        · rw [r1] at hq; cases hq
        · rw [r1] at hq; cases hq; exact hP2.is
      refine x_aload_n (M := mX0_restore) (pc := 24) dX0_restore_24 rfl ?_
      refine x_aload_n (M := mX0_restore) (pc := 25) dX0_restore_25 rfl ?_
      refine x_get (M := mX0_restore) (pc := 26) kcX0 0 rfl q368 dX0_restore_26 (by first | assumption | exact xu_s _ _ _ | exact (xu_n (by first | assumption | exact Ne.symm (by assumption) | exact xu_fresh (by assumption) (by assumption) | exact (xu_fresh (by assumption) (by assumption)).symm)).trans (by first | assumption | exact xu_s _ _ _ | exact (xu_n (by first | assumption | exact Ne.symm (by assumption) | exact xu_fresh (by assumption) (by assumption) | exact (xu_fresh (by assumption) (by assumption)).symm)).trans (by first | assumption | exact xu_s _ _ _ | exact (xu_n (by first | assumption | exact Ne.symm (by assumption) | exact xu_fresh (by assumption) (by assumption) | exact (xu_fresh (by assumption) (by assumption)).symm)).trans (by first | assumption | exact xu_s _ _ _)))) rfl ?_
      refine x_V0 (M := mX0_restore) (pc := 29) (M' := mX1_copy) q641 kVX1_copy dX0_restore_29 (c_deskCopy h1 x.1 x.2.1 sl (d - 1) (by omega) f P x.2.2 xs ys hWF d1 d2 hfi hP) (xIs.of kcX1 d1) (fun v_ h2 hq_ => ?_)
      obtain ⟨q, q', sl', P', f', hv_, c1, c2, cf, c3, c4, c5, c6, c7, c8, c9, hl2⟩ := hq_; cases hv_
      refine x_cst (M := mX0_restore) (pc := 32) (fun _ _ _ hx2 => ?_)
      have hDQ1 := hS.2.2.2.2.1
      refine x_V1 (M := mX0_restore) (pc := 32) (M' := mX0_remember) q1053 kVX0_remember dX0_restore_32 (c_remember h2 cb dq arr hd (d - 1) q (by omega) _ _ (hs.map (fun y => y.1)) (hl2 _ _ hcb) (hDQ1.le2 (hl2 _) (hl2 _)) (by rw [List.length_map]; exact hS.2.2.2.2.2.2.2.1) (by rw [c1]; simp) ⟨_, c1⟩) (xIs.of kcX0 (hl2 _ _ hcb)) (fun v_ h3 hq_ => ?_)
      obtain ⟨hv_, hd', hD3, hl3⟩ := hq_; cases hv_
      rw [rmH_map] at hD3
      obtain ⟨ow3, hS3, hK3⟩ := hS.rem (m := m) hx1 hx2 hm1 (fun sl2 f2 e1 e2 => by rw [d1] at e1; cases e1; rw [d2] at e2; cases e2; exact cf) c1 c2 c3 c4 c5 c6 c7 c8 c9 hl2 hD3 hl3
      refine x_cst (M := mX0_restore) (pc := 35) (fun _ _ _ hx3 => ?_)
      have hcb3 := hS3.1
      obtain ⟨⟨sl3, f3, e1, e2, u1, u2, -, hT3⟩, -⟩ := hS3.2.1 x (by simp)
      rcases hT3 n (by omega) with ⟨-, y2⟩ | ⟨q3, y1, -, ⟨P3, xs3, ys3, hP3, hO3⟩⟩
      · exact absurd y2 tn
      have hW0 := hWS.sl (j := n) (by omega) t2
      have hv3 : va_rf (f3 n) = .ref q3 := by rw [y1]; rfl
      refine x_aload_n (M := mX0_restore) (pc := 35) dX0_restore_35 rfl ?_
      refine x_get (M := mX0_restore) (pc := 36) kcX0 0 rfl q368 dX0_restore_36 (by first | assumption | exact xu_s _ _ _ | exact (xu_n (by first | assumption | exact Ne.symm (by assumption) | exact xu_fresh (by assumption) (by assumption) | exact (xu_fresh (by assumption) (by assumption)).symm)).trans (by first | assumption | exact xu_s _ _ _ | exact (xu_n (by first | assumption | exact Ne.symm (by assumption) | exact xu_fresh (by assumption) (by assumption) | exact (xu_fresh (by assumption) (by assumption)).symm)).trans (by first | assumption | exact xu_s _ _ _ | exact (xu_n (by first | assumption | exact Ne.symm (by assumption) | exact xu_fresh (by assumption) (by assumption) | exact (xu_fresh (by assumption) (by assumption)).symm)).trans (by first | assumption | exact xu_s _ _ _)))) rfl ?_
      refine x_aload_n (M := mX0_restore) (pc := 39) dX0_restore_39 rfl ?_
      refine x_get (M := mX0_restore) (pc := 40) kcX0 0 rfl q368 dX0_restore_40 (by first | assumption | exact xu_s _ _ _ | exact (xu_n (by first | assumption | exact Ne.symm (by assumption) | exact xu_fresh (by assumption) (by assumption) | exact (xu_fresh (by assumption) (by assumption)).symm)).trans (by first | assumption | exact xu_s _ _ _ | exact (xu_n (by first | assumption | exact Ne.symm (by assumption) | exact xu_fresh (by assumption) (by assumption) | exact (xu_fresh (by assumption) (by assumption)).symm)).trans (by first | assumption | exact xu_s _ _ _ | exact (xu_n (by first | assumption | exact Ne.symm (by assumption) | exact xu_fresh (by assumption) (by assumption) | exact (xu_fresh (by assumption) (by assumption)).symm)).trans (by first | assumption | exact xu_s _ _ _)))) rfl ?_
      refine x_getN (M := mX0_restore) (pc := 43) kcX1 1 rfl q310 dX0_restore_43 (by first | assumption | exact xu_s _ _ _ | exact (xu_n (by first | assumption | exact Ne.symm (by assumption) | exact xu_fresh (by assumption) (by assumption) | exact (xu_fresh (by assumption) (by assumption)).symm)).trans (by first | assumption | exact xu_s _ _ _ | exact (xu_n (by first | assumption | exact Ne.symm (by assumption) | exact xu_fresh (by assumption) (by assumption) | exact (xu_fresh (by assumption) (by assumption)).symm)).trans (by first | assumption | exact xu_s _ _ _ | exact (xu_n (by first | assumption | exact Ne.symm (by assumption) | exact xu_fresh (by assumption) (by assumption) | exact (xu_fresh (by assumption) (by assumption)).symm)).trans (by first | assumption | exact xu_s _ _ _)))) rfl ?_
      refine x_iload_n (M := mX0_restore) (pc := 46) dX0_restore_46 rfl ?_
      refine x_aaldN (M := mX0_restore) (pc := 47) _ dX0_restore_47 (by first | assumption | exact xu_s _ _ _ | exact (xu_n (by first | assumption | exact Ne.symm (by assumption) | exact xu_fresh (by assumption) (by assumption) | exact (xu_fresh (by assumption) (by assumption)).symm)).trans (by first | assumption | exact xu_s _ _ _ | exact (xu_n (by first | assumption | exact Ne.symm (by assumption) | exact xu_fresh (by assumption) (by assumption) | exact (xu_fresh (by assumption) (by assumption)).symm)).trans (by first | assumption | exact xu_s _ _ _ | exact (xu_n (by first | assumption | exact Ne.symm (by assumption) | exact xu_fresh (by assumption) (by assumption) | exact (xu_fresh (by assumption) (by assumption)).symm)).trans (by first | assumption | exact xu_s _ _ _)))) (by first | rfl | assumption) (by first | assumption | omega) (by first | decide | omega) (hv3) ?_
      refine x_V0 (M := mX0_restore) (pc := 48) (M' := mX2_copy) q1586 kVX2_copy dX0_restore_48 (c_copy h3 q3 (d - 1) (by omega) P3 _ xs3 ys3 hW0 hP3) (hP3.is) (fun v_ h4 hq_ => ?_)
      obtain ⟨r, R', hv_, r1, r2, r3, r4, r5, r6⟩ := hq_; cases hv_
      refine x_cst (M := mX0_restore) (pc := 51) (fun _ _ _ hx4 => ?_)
      obtain ⟨ow4, hS4, hK4⟩ := hS3.res (m := m) (s' := fun k => if k < 154 then x.2.2 (156 + 154 * n + k) else x.2.2 k) hx3 hx4 hm2 e1 e2 r1 r2 r3 r4 r5 r6 (hkt _ _ rfl) hW0 (fun k hk => if_pos hk) (fun k hk => if_neg (by omega))
      have e1' := r6 _ _ e1
      refine x_putN0 (M := mX0_restore) (pc := 51) kcX1 q308 dX0_restore_51 (by first | assumption | exact xu_s _ _ _ | exact (xu_n (by first | assumption | exact Ne.symm (by assumption) | exact xu_fresh (by assumption) (by assumption) | exact (xu_fresh (by assumption) (by assumption)).symm)).trans (by first | assumption | exact xu_s _ _ _ | exact (xu_n (by first | assumption | exact Ne.symm (by assumption) | exact xu_fresh (by assumption) (by assumption) | exact (xu_fresh (by assumption) (by assumption)).symm)).trans (by first | assumption | exact xu_s _ _ _ | exact (xu_n (by first | assumption | exact Ne.symm (by assumption) | exact xu_fresh (by assumption) (by assumption) | exact (xu_fresh (by assumption) (by assumption)).symm)).trans (by first | assumption | exact xu_s _ _ _)))) ?_
      have hcb5 := hS4.1
      obtain ⟨⟨sl5, f5, g1, g2, -, -, ⟨P5, xs5, ys5, hP5, -⟩, -⟩, -⟩ := hS4.2.1 _ (List.mem_cons_self ..)
      have hsh5 := hP5.1
      unfold shE at hsh5
      refine x_aload_n (M := mX0_restore) (pc := 54) dX0_restore_54 rfl ?_
      refine x_get (M := mX0_restore) (pc := 55) kcX0 0 rfl q368 dX0_restore_55 (by first | assumption | exact xu_s _ _ _ | exact (xu_n (by first | assumption | exact Ne.symm (by assumption) | exact xu_fresh (by assumption) (by assumption) | exact (xu_fresh (by assumption) (by assumption)).symm)).trans (by first | assumption | exact xu_s _ _ _ | exact (xu_n (by first | assumption | exact Ne.symm (by assumption) | exact xu_fresh (by assumption) (by assumption) | exact (xu_fresh (by assumption) (by assumption)).symm)).trans (by first | assumption | exact xu_s _ _ _ | exact (xu_n (by first | assumption | exact Ne.symm (by assumption) | exact xu_fresh (by assumption) (by assumption) | exact (xu_fresh (by assumption) (by assumption)).symm)).trans (by first | assumption | exact xu_s _ _ _)))) rfl ?_
      refine x_getN (M := mX0_restore) (pc := 58) kcX1 0 rfl q308 dX0_restore_58 (by first | assumption | exact xu_s _ _ _ | exact (xu_n (by first | assumption | exact Ne.symm (by assumption) | exact xu_fresh (by assumption) (by assumption) | exact (xu_fresh (by assumption) (by assumption)).symm)).trans (by first | assumption | exact xu_s _ _ _ | exact (xu_n (by first | assumption | exact Ne.symm (by assumption) | exact xu_fresh (by assumption) (by assumption) | exact (xu_fresh (by assumption) (by assumption)).symm)).trans (by first | assumption | exact xu_s _ _ _ | exact (xu_n (by first | assumption | exact Ne.symm (by assumption) | exact xu_fresh (by assumption) (by assumption) | exact (xu_fresh (by assumption) (by assumption)).symm)).trans (by first | assumption | exact xu_s _ _ _)))) rfl ?_
      refine x_getN (M := mX0_restore) (pc := 61) kcX2 3 rfl q226 dX0_restore_61 (by first | assumption | exact xu_s _ _ _ | exact (xu_n (by first | assumption | exact Ne.symm (by assumption) | exact xu_fresh (by assumption) (by assumption) | exact (xu_fresh (by assumption) (by assumption)).symm)).trans (by first | assumption | exact xu_s _ _ _ | exact (xu_n (by first | assumption | exact Ne.symm (by assumption) | exact xu_fresh (by assumption) (by assumption) | exact (xu_fresh (by assumption) (by assumption)).symm)).trans (by first | assumption | exact xu_s _ _ _ | exact (xu_n (by first | assumption | exact Ne.symm (by assumption) | exact xu_fresh (by assumption) (by assumption) | exact (xu_fresh (by assumption) (by assumption)).symm)).trans (by first | assumption | exact xu_s _ _ _)))) rfl ?_
      refine x_iret (M := mX0_restore) (pc := 64) dX0_restore_64 rfl (by first | exact Nat.le_of_ble_eq_true rfl | omega) (by first | exact Nat.le_of_ble_eq_true rfl | omega) ?_
      refine ⟨?_, ow4, hd', r, q, q', hS4, hK3.tr hK4 (fun p hp => ?_)⟩
      · rw [show zNf (fun k => if k < 154 then x.2.2 (156 + 154 * n + k) else x.2.2 k) = zNf (fun k => x.2.2 (156 + 154 * n + k)) from zN_c (if_pos (by omega))]
        exact congrArg (fun z => Sum.inl (some (Value.int z))) hW0.1.2.2.1.symm
      · have hp2 := nn_le hl2 p hp
        by_cases z1 : p = dq
        · have := hS3.2.2.2.2.1.1; rw [z1, this]; simp
        · by_cases z2 : p = arr
          · obtain ⟨-, -, -, -, fa, harr, -⟩ := hS3.2.2.2.2.1; rw [z2, harr]; simp
          · cases e : h2 p with
            | none => exact absurd e hp2
            | some e' => rw [hl3 p e' z1 z2 e]; simp
  · rw [c]
    refine x_iconst (M := mX0_restore) (pc := 7) (v := (-1)) dX0_restore_7 (by decide) ?_
    refine x_iret (M := mX0_restore) (pc := 8) dX0_restore_8 rfl (by first | exact Nat.le_of_ble_eq_true rfl | omega) (by first | exact Nat.le_of_ble_eq_true rfl | omega) ?_
    exact ⟨rfl, ow, hd, hS, KP.le xle.rf⟩
end RESTORE2

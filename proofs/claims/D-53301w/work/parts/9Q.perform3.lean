/-! CribBooklet.perform -/
section PERFORM3
set_option maxRecDepth 100000
variable {g : xG} {l : Launch} {h h0 h' : xH}
/-- how a command of the class ends -/
def PF (g : xG) (hh : xH) (ow : Nat → Option Nat) (cb dq arr sb tb len m : Nat) (tx : Nat → Nat) (x : HE) (hs : List HE) (res : CRes) (o : xO) (h' : xH) : Prop := match res with
  | .inl e => o = .inl (some (.int e)) ∧ ∃ ow' hd, ST g h' ow' cb dq arr hd sb tb len tx x hs ∧ KP ow m hh ow' h'
  | .inr r => o = .inl (some (.int r.1)) ∧ ∃ ow' hd q q', ST g h' ow' cb dq arr hd sb tb len tx (x.1, x.2.1, r.2) (rmH hs ++ [(q, q', x.2.2)]) ∧ KP ow m hh ow' h'
theorem cmE_no {k : Nat} {a : Nat → Int32} : (∀ fs, cmE k a ≠ .inr (29, fs)) ∧ (∀ t, cmE k a ≠ .inl t) := by
  refine ⟨fun fs z => ?_, fun t z => ?_⟩
  · unfold cmE at z; split at z <;> cases z
  · unfold cmE at z; split at z <;> cases z
theorem KP.le {ow : Nat → Option Nat} {m : Nat} (hl : xle h h') : KP ow m h ow h' := ⟨fun a e ha _ => hl a e ha, fun _ _ => rfl⟩
theorem nn_le (hl : xle h h') : ∀ p, h p ≠ none → h' p ≠ none := fun p hp => by
  cases e : h p with
  | none => exact absurd e hp
  | some e' => rw [hl p e' e]; simp
theorem c_perform (hh : xH) (ow : Nat → Option Nat) (cb dq arr hd sb tb len m k cm d : Nat) (hd16 : 16 ≤ d) (tx : Nat → Nat) (x : HE) (hs : List HE) (a : Nat → Int32) (hk : k < 15) (hS : ST g hh ow cb dq arr hd sb tb len tx x hs) (hcm : hh cm = some (cmE k a)) (hm1 : m ≠ dq) (hm2 : m ≠ x.2.1) :
    Ct g l mX0_perform d 228 874 [.ref cb, .ref cm] hh (PF g hh ow cb dq arr sb tb len m tx x hs (cmF k a x.2.2)) := by
  have hcb := hS.1
  have hD0 := (hS.2.1 x (by simp))
  have hWF := hD0.2.1
  obtain ⟨⟨sl, f, d1, d2, w1, w2, ⟨P, xs, ys, hP, hOP⟩, hT⟩, hWS⟩ := id hD0
  refine Ct.of [some (.ref cb), some (.ref cm), none] (by decide +kernel) rfl (Nat.le_of_ble_eq_true rfl) rfl rfl ?_
  refine x_cst (M := mX0_perform) (pc := 0) (fun _ _ _ hx0 => ?_)
  refine x_aload_n (M := mX0_perform) (pc := 0) dX0_perform_0 rfl ?_
  refine x_aload_n (M := mX0_perform) (pc := 1) dX0_perform_1 rfl ?_
  refine x_get (M := mX0_perform) (pc := 2) kcX0 0 rfl q368 dX0_perform_2 (by first | assumption | exact xu_s _ _ _ | exact (xu_n (by first | assumption | exact Ne.symm (by assumption) | exact xu_fresh (by assumption) (by assumption) | exact (xu_fresh (by assumption) (by assumption)).symm)).trans (by first | assumption | exact xu_s _ _ _ | exact (xu_n (by first | assumption | exact Ne.symm (by assumption) | exact xu_fresh (by assumption) (by assumption) | exact (xu_fresh (by assumption) (by assumption)).symm)).trans (by first | assumption | exact xu_s _ _ _ | exact (xu_n (by first | assumption | exact Ne.symm (by assumption) | exact xu_fresh (by assumption) (by assumption) | exact (xu_fresh (by assumption) (by assumption)).symm)).trans (by first | assumption | exact xu_s _ _ _)))) rfl ?_
  refine x_getN (M := mX0_perform) (pc := 5) kcX1 0 rfl q308 dX0_perform_5 (by first | assumption | exact xu_s _ _ _ | exact (xu_n (by first | assumption | exact Ne.symm (by assumption) | exact xu_fresh (by assumption) (by assumption) | exact (xu_fresh (by assumption) (by assumption)).symm)).trans (by first | assumption | exact xu_s _ _ _ | exact (xu_n (by first | assumption | exact Ne.symm (by assumption) | exact xu_fresh (by assumption) (by assumption) | exact (xu_fresh (by assumption) (by assumption)).symm)).trans (by first | assumption | exact xu_s _ _ _ | exact (xu_n (by first | assumption | exact Ne.symm (by assumption) | exact xu_fresh (by assumption) (by assumption) | exact (xu_fresh (by assumption) (by assumption)).symm)).trans (by first | assumption | exact xu_s _ _ _)))) rfl ?_
  refine x_chk (M := mX0_perform) (pc := 8) q403 dX0_perform_8 hk hcm hP hWF (by omega) (by omega) (by omega) (Nat.le_of_ble_eq_true rfl) (fun h1 hl1 => ?_)
  have hS1 := hS.le hx0 hl1
  cases hr : cmF k a x.2.2 with
  | inl e =>
    have he := cmF_neg hr
    refine x_istore2 (M := mX0_perform) (pc := 13) dX0_perform_13 ?_
    refine x_iload_n (M := mX0_perform) (pc := 14) dX0_perform_14 rfl ?_
    refine x_if_ge (M := mX0_perform) (pc := 15) 20 dX0_perform_15 (by decide) (fun c => absurd he (Int32.not_lt.mpr c)) (fun c => ?_)
    refine x_iload_n (M := mX0_perform) (pc := 18) dX0_perform_18 rfl ?_
    refine x_iret (M := mX0_perform) (pc := 19) dX0_perform_19 rfl (by first | exact Nat.le_of_ble_eq_true rfl | omega) (by first | exact Nat.le_of_ble_eq_true rfl | omega) ?_
    exact ⟨rfl, ow, hd, hS1, KP.le hl1⟩
  | inr r =>
    obtain ⟨v, s'⟩ := r
    refine x_istore2 (M := mX0_perform) (pc := 13) dX0_perform_13 ?_
    refine x_iload_n (M := mX0_perform) (pc := 14) dX0_perform_14 rfl ?_
    refine x_if_ge (M := mX0_perform) (pc := 15) 20 dX0_perform_15 (by decide) (fun c => ?_) (fun c => absurd (show (0 : Int32) ≤ 0 by decide) c)
    refine x_cst (M := mX0_perform) (pc := 20) (fun _ _ _ hx1 => ?_)
    have hcb1 := hl1 _ _ hcb
    have hP1 := hP.le hl1
    have d11 := hl1 _ _ d1
    have d21 := hl1 _ _ d2
    have hfi : ∀ j, j < 2 → ∀ q, f j = some q → xIs g h1 q "CribBooklet$Sheet" := fun j hj q hq => by
      rcases hT j hj with ⟨r1, -⟩ | ⟨q2, r1, -, ⟨P2, zs, zt, hP2, -⟩⟩
      · rw [r1] at hq; cases hq
      · rw [r1] at hq; cases hq; exact (hP2.is).le hl1
    refine x_aload_n (M := mX0_perform) (pc := 20) dX0_perform_20 rfl ?_
    refine x_aload_n (M := mX0_perform) (pc := 21) dX0_perform_21 rfl ?_
    refine x_get (M := mX0_perform) (pc := 22) kcX0 0 rfl q368 dX0_perform_22 (by first | assumption | exact xu_s _ _ _ | exact (xu_n (by first | assumption | exact Ne.symm (by assumption) | exact xu_fresh (by assumption) (by assumption) | exact (xu_fresh (by assumption) (by assumption)).symm)).trans (by first | assumption | exact xu_s _ _ _ | exact (xu_n (by first | assumption | exact Ne.symm (by assumption) | exact xu_fresh (by assumption) (by assumption) | exact (xu_fresh (by assumption) (by assumption)).symm)).trans (by first | assumption | exact xu_s _ _ _ | exact (xu_n (by first | assumption | exact Ne.symm (by assumption) | exact xu_fresh (by assumption) (by assumption) | exact (xu_fresh (by assumption) (by assumption)).symm)).trans (by first | assumption | exact xu_s _ _ _)))) rfl ?_
    refine x_V0 (M := mX0_perform) (pc := 25) (M' := mX1_copy) q641 kVX1_copy dX0_perform_25 (c_deskCopy h1 x.1 x.2.1 sl (d - 1) (by omega) f P x.2.2 xs ys hWF d11 d21 hfi hP1) (xIs.of kcX1 d11) (fun v_ h2 hq_ => ?_)
    obtain ⟨q, q', sl', P', f', hv_, c1, c2, cf, c3, c4, c5, c6, c7, c8, c9, hl2⟩ := hq_; cases hv_
    refine x_cst (M := mX0_perform) (pc := 28) (fun _ _ _ hx2 => ?_)
    have hDQ1 := hS1.2.2.2.2.1
    refine x_V1 (M := mX0_perform) (pc := 28) (M' := mX0_remember) q1053 kVX0_remember dX0_perform_28 (c_remember h2 cb dq arr hd (d - 1) q (by omega) _ _ (hs.map (fun y => y.1)) (hl2 _ _ hcb1) (hDQ1.le2 (hl2 _) (hl2 _)) (by rw [List.length_map]; exact hS.2.2.2.2.2.2.2.1) (by rw [c1]; simp) ⟨_, c1⟩) (xIs.of kcX0 (hl2 _ _ hcb1)) (fun v_ h3 hq_ => ?_)
    obtain ⟨hv_, hd', hD3, hl3⟩ := hq_; cases hv_
    rw [rmH_map] at hD3
    obtain ⟨ow3, hS3, hK3⟩ := hS1.rem (m := m) hx1 hx2 hm1 (fun sl2 f2 e1 e2 => by rw [d11] at e1; cases e1; rw [d21] at e2; cases e2; exact cf) c1 c2 c3 c4 c5 c6 c7 c8 c9 hl2 hD3 hl3
    refine x_cst (M := mX0_perform) (pc := 31) (fun _ _ _ hx3 => ?_)
    have hcm3 : h3 cm = some (cmE k a) := by
      have hdq := hDQ1.1
      obtain ⟨-, -, -, -, fa, harr, -⟩ := id hDQ1
      have hc1 := hl1 _ _ hcm
      refine hl3 _ _ (fun z => ?_) (fun z => ?_) (hl2 _ _ hc1)
      · rw [z, hdq] at hc1; exact cmE_no.1 _ (Option.some.inj hc1).symm
      · rw [z, harr] at hc1; exact cmE_no.2 _ (Option.some.inj hc1).symm
    have hcb3 := hS3.1
    obtain ⟨⟨sl3, f3, e1, e2, u1, u2, hSH3, hT3⟩, -⟩ := hS3.2.1 x (by simp)
    refine x_aload_n (M := mX0_perform) (pc := 31) dX0_perform_31 rfl ?_
    refine x_aload_n (M := mX0_perform) (pc := 32) dX0_perform_32 rfl ?_
    refine x_get (M := mX0_perform) (pc := 33) kcX0 0 rfl q368 dX0_perform_33 (by first | assumption | exact xu_s _ _ _ | exact (xu_n (by first | assumption | exact Ne.symm (by assumption) | exact xu_fresh (by assumption) (by assumption) | exact (xu_fresh (by assumption) (by assumption)).symm)).trans (by first | assumption | exact xu_s _ _ _ | exact (xu_n (by first | assumption | exact Ne.symm (by assumption) | exact xu_fresh (by assumption) (by assumption) | exact (xu_fresh (by assumption) (by assumption)).symm)).trans (by first | assumption | exact xu_s _ _ _ | exact (xu_n (by first | assumption | exact Ne.symm (by assumption) | exact xu_fresh (by assumption) (by assumption) | exact (xu_fresh (by assumption) (by assumption)).symm)).trans (by first | assumption | exact xu_s _ _ _)))) rfl ?_
    refine x_getN (M := mX0_perform) (pc := 36) kcX1 0 rfl q308 dX0_perform_36 (by first | assumption | exact xu_s _ _ _ | exact (xu_n (by first | assumption | exact Ne.symm (by assumption) | exact xu_fresh (by assumption) (by assumption) | exact (xu_fresh (by assumption) (by assumption)).symm)).trans (by first | assumption | exact xu_s _ _ _ | exact (xu_n (by first | assumption | exact Ne.symm (by assumption) | exact xu_fresh (by assumption) (by assumption) | exact (xu_fresh (by assumption) (by assumption)).symm)).trans (by first | assumption | exact xu_s _ _ _ | exact (xu_n (by first | assumption | exact Ne.symm (by assumption) | exact xu_fresh (by assumption) (by assumption) | exact (xu_fresh (by assumption) (by assumption)).symm)).trans (by first | assumption | exact xu_s _ _ _)))) rfl ?_
    have hkeep := cmF_keep hWF _ _ hr
    have hWS' := (KEEP.ks hWS (cmF_keep (k := k) (a := a) hWF)) _ _ hr
    refine x_cyo (M := mX0_perform) (pc := 39) q1078 dX0_perform_39 hk hcm3 hSH3 hWF hr (by omega) (by omega) (by omega) (Nat.le_of_ble_eq_true rfl) (fun h4 hR => ?_)
    obtain ⟨ow4, hS4, hK4⟩ := hS3.cy (m := m) hx3 hm2 hR hWS' hkeep.2
    refine x_iret (M := mX0_perform) (pc := 44) dX0_perform_44 rfl (by first | exact Nat.le_of_ble_eq_true rfl | omega) (by first | exact Nat.le_of_ble_eq_true rfl | omega) ?_
    refine ⟨rfl, ow4, hd', q, q', hS4, ((KP.le hl1).tr hK3 (nn_le hl1)).tr hK4 (fun p hp => ?_)⟩
    have hp2 := nn_le hl2 p (nn_le hl1 p hp)
    by_cases z1 : p = dq
    · have := hS3.2.2.2.2.1.1; rw [z1, this]; simp
    · by_cases z2 : p = arr
      · obtain ⟨-, -, -, -, fa, harr, -⟩ := hS3.2.2.2.2.1; rw [z2, harr]; simp
      · cases e : h2 p with
        | none => exact absurd e hp2
        | some e' => rw [hl3 p e' z1 z2 e]; simp
end PERFORM3

/-! java.util.PriorityQueue, of numbered notes -/
section JDKPQ
set_option maxRecDepth 100000
variable {g : xG} {l : Launch} {h h0 : xH}
theorem c_nbCmpO (h : xH) (c a b d : Nat) (ra rb : Int) (hd : 2 ≤ d) (hc : h c = some (.inr (41, []))) (ha : NBD h a ra) (hb : NBD h b rb) : Ct g l mX28_compare d 0 0 [.ref c, .ref a, .ref b] h (fun o h' => (∃ v, o = .inl (some (.int v)) ∧ sgn v ra rb) ∧ h' = h) := by
  have ha' : xIs g h a RX29 := by obtain ⟨_, _, _, _, _, _, h1, _⟩ := ha; exact xIs.of kcX29 h1
  have hb' : xIs g h b RX29 := by obtain ⟨_, _, _, _, _, _, h1, _⟩ := hb; exact xIs.of kcX29 h1
  refine Ct.of [some (.ref c), some (.ref a), some (.ref b)] (by decide +kernel) rfl (Nat.le_of_ble_eq_true rfl) rfl rfl ?_
  refine x_aload_n (M := mX28_compare) (pc := 0) dX28_compare_0 rfl ?_
  refine x_aload_n (M := mX28_compare) (pc := 1) dX28_compare_1 rfl ?_
  refine x_cast (M := mX28_compare) (pc := 2) q2192 dX28_compare_2 (ha') (Or.inl rfl) ?_
  refine x_aload_n (M := mX28_compare) (pc := 5) dX28_compare_5 rfl ?_
  refine x_cast (M := mX28_compare) (pc := 6) q2192 dX28_compare_6 (hb') (Or.inl rfl) ?_
  refine x_V2 (M := mX28_compare) (pc := 9) (M' := mX28_compare_2) q2193 kVX28_compare_2 dX28_compare_9 (c_nbCmp h c a b (d - 1) ra rb (by omega) ha hb) (xIs.of kcX28 hc) (fun v_ h hq_ => ?_)
  obtain ⟨⟨v, hv_, hs⟩, rfl⟩ := hq_; cases hv_
  refine x_iret (M := mX28_compare) (pc := 12) dX28_compare_12 rfl (by first | exact Nat.le_of_ble_eq_true rfl | omega) (by first | exact Nat.le_of_ble_eq_true rfl | omega) ?_
  exact ⟨⟨v, rfl, hs⟩, rfl⟩
theorem qIF_cm : xIF RX28 xCmpr mX28_compare 2 := ⟨q2187, q2189, kCX28_compare, by decide +kernel, rfl, by decide +kernel⟩
section
variable {M : xM} {d mc ms : Nat} {Q : xO → xH → Prop} {pc : Nat} {Lo : List (Option Value)} {st : List Value} {uc us : Nat}
theorem x_pcmp {c a b cnt : Nat} {ra rb : Int} (hc : h c = some (.inr (41, []))) (ha : NBD h a ra) (hb : NBD h b rb) (hcls : Cond.methodLink M.1.cls 149 xCmpr ∈ lw_all) (hd : decode M.2.1 pc = .ok (.invokeinterface 149 cnt, 5)) (hdep : 3 ≤ d) (h1 : uc ≤ mc) (h2 : us ≤ ms) (hsum : (st.map fun v => v.category).sum ≤ 8) (kk : ∀ v, sgn v ra rb → X g l M d mc ms Q (pc + 5) Lo (.int v :: st) h uc us) : X g l M d mc ms Q pc Lo (.ref b :: .ref a :: .ref c :: st) h uc us := by
  refine x_GF (As := [.ref a, .ref b]) (M' := mX28_compare) (d' := 2) (mc' := 0) (ms' := 0) hcls qIF_cm.1 qIF_cm.2.1 qIF_cm.2.2.1 qIF_cm.2.2.2.1 qIF_cm.2.2.2.2.1 hd (c_nbCmpO h c a b 2 ra rb (by omega) hc ha hb) (xIs.of kcX28 hc) qIF_cm.2.2.2.2.2 rfl rfl hdep h1 h2 (by intro q h' hh; simp at hh) hsum (fun v_ h hq_ => ?_)
  obtain ⟨⟨v, hv_, hs⟩, rfl⟩ := hq_; cases hv_
  exact kk _ hs
end
theorem ush1 : ∀ a, a < 16 → ((nI a).toUInt32 >>> (Int32.toUInt32 (nI 1) &&& Int32.toUInt32 31)).toInt32 = nI (a / 2) := by decide
theorem shl1 : ∀ a, a < 16 → (nI a <<< (nI 1 &&& 31) : Int32) = nI (2 * a) := by decide
/-- an array of 12 objects -/
def PA (g : xG) (h : xH) (arr : Nat) (f : Nat → Option Nat) : Prop := h arr = some (.inl (xdA g 3, 12, .inr (.inr (.inr (.inr f)))))
theorem NBD.upA {arr a : Nat} {r : Int} {f f' : Nat → Option Nat} (hp : PA g h arr f) (hn : NBD h a r) : NBD (xu h arr (.inl (xdA g 3, 12, .inr (.inr (.inr (.inr f')))))) a r :=
  hn.le (fun q c fs _ hq => (xu_n (fun e => by subst e; unfold PA at hp; rw [hp] at hq; cases hq)).trans hq)
theorem NBD.is {a : Nat} {r : Int} (hn : NBD h a r) : xIs g h a RX29 := by obtain ⟨_, _, _, _, _, _, h1, _⟩ := hn; exact xIs.of kcX29 h1
theorem xle1.upd {arr : Nat} {e : va_E} (hF : xle1 arr h0 h) : xle1 arr h0 (xu h arr e) := fun q e n1 z => (xu_n n1).trans (hF q e n1 z)
theorem obj41 {c arr : Nat} {f : Nat → Option Nat} {e : va_E} (hA : PA g h arr f) (hc : h c = some (.inr (41, []))) : xu h arr e c = some (.inr (41, [])) := (xu_n (fun z => by subst z; unfold PA at hA; rw [hA] at hc; cases hc)).trans hc
theorem j_suE (arr x c n d : Nat) (hn : n ≤ 12) (r : Nat → Int) (h0 : xH) (e0 : Nat → Nat) (Q : xO → xH → Prop) (hE : ∀ e f h, hSm e0 e n → hOrd (fun i => r (e i)) n → (∀ i, i < n → f i = some (e i)) → PA g h arr f → xle1 arr h0 h → Q (.inl none) h) (k : Nat) (hkn : k < n) (e : Nat → Nat) (f : Nat → Option Nat) (h : xH) (a4 a5 : Option Value) (hex : e k = x) (hf : ∀ i, i < n → i ≠ k → f i = some (e i)) (hA : PA g h arr f) (hN : ∀ i, i < n → NBD h (e i) (r (e i))) (hsm : hSm e0 e n) (hO : hOrd (fun i => r (e i)) n) (hF : xle1 arr h0 h) : X g l mJ29_siftUpUsingComparator d 0 0 Q 43 [some (.int (nI k)), some (.ref x), some (.ref arr), some (.ref c), a4, a5] [] h 0 0 := by
  have hx := (hN k hkn).is (g := g)
  rw [hex] at hx
  have hA' := hA
  unfold PA at hA'
  refine x_aload_n (M := mJ29_siftUpUsingComparator) (pc := 43) dJ29_siftUpUsingComparator_43 rfl ?_
  refine x_iload_n (M := mJ29_siftUpUsingComparator) (pc := 44) dJ29_siftUpUsingComparator_44 rfl ?_
  refine x_aload_n (M := mJ29_siftUpUsingComparator) (pc := 45) dJ29_siftUpUsingComparator_45 rfl ?_
  refine x_aastN (M := mJ29_siftUpUsingComparator) (pc := 46) _ dJ29_siftUpUsingComparator_46 (by first | assumption | exact xu_s _ _ _ | exact (xu_n (by first | assumption | exact Ne.symm (by assumption) | exact xu_fresh (by assumption) (by assumption) | exact (xu_fresh (by assumption) (by assumption)).symm)).trans (by first | assumption | exact xu_s _ _ _ | exact (xu_n (by first | assumption | exact Ne.symm (by assumption) | exact xu_fresh (by assumption) (by assumption) | exact (xu_fresh (by assumption) (by assumption)).symm)).trans (by first | assumption | exact xu_s _ _ _ | exact (xu_n (by first | assumption | exact Ne.symm (by assumption) | exact xu_fresh (by assumption) (by assumption) | exact (xu_fresh (by assumption) (by assumption)).symm)).trans (by first | assumption | exact xu_s _ _ _)))) (hx) (Or.inr q3365) (by first | rfl | assumption) (by first | assumption | omega) (by first | decide | omega) ?_
  refine x_vret (M := mJ29_siftUpUsingComparator) (pc := 47) dJ29_siftUpUsingComparator_47 rfl (by first | exact Nat.le_of_ble_eq_true rfl | omega) (by first | exact Nat.le_of_ble_eq_true rfl | omega) ?_
  refine hE e _ _ hsm hO (fun i hi => ?_) (xu_s _ _ _) hF.upd
  by_cases z : i = k
  · subst z; simp [va_up, hex]
  · simp [va_up, z]; exact hf i hi z
theorem j_suL (arr x c n d : Nat) (hd : 3 ≤ d) (hn : n ≤ 12) (r : Nat → Int) (h0 : xH) (e0 : Nat → Nat) (Q : xO → xH → Prop) (hE : ∀ e f h, hSm e0 e n → hOrd (fun i => r (e i)) n → (∀ i, i < n → f i = some (e i)) → PA g h arr f → xle1 arr h0 h → Q (.inl none) h) : ∀ m k, k ≤ m → k < n → ∀ (e : Nat → Nat) (f : Nat → Option Nat) (h : xH) (a4 a5 : Option Value), e k = x → (∀ i, i < n → i ≠ k → f i = some (e i)) → PA g h arr f → h c = some (.inr (41, [])) → (∀ i, i < n → NBD h (e i) (r (e i))) → hSm e0 e n → hUp (fun i => r (e i)) n k → xle1 arr h0 h → (∀ w, a4 = some w → w.category = 1) → X g l mJ29_siftUpUsingComparator d 0 0 Q 0 [some (.int (nI k)), some (.ref x), some (.ref arr), some (.ref c), a4, a5] [] h 0 0 := by
  intro m
  induction m with
  | zero =>
    intro k hk hkn e f h a4 a5 hex hf hA hc hN hsm hU hF ha4
    have : k = 0 := by omega
    subst this
    refine x_iload_n (M := mJ29_siftUpUsingComparator) (pc := 0) dJ29_siftUpUsingComparator_0 rfl ?_
    refine x_if_leN (M := mJ29_siftUpUsingComparator) (pc := 1) 43 dJ29_siftUpUsingComparator_1 (by decide) (by decide) (fun _ => ?_) (fun z => absurd z (by omega))
    exact j_suE arr x c n d hn r h0 e0 Q hE 0 hkn e f h a4 a5 hex hf hA hN hsm (hU.done (Or.inl rfl)) hF
  | succ m ih =>
    intro k hk hkn e f h a4 a5 hex hf hA hc hN hsm hU hF ha4
    refine x_iload_n (M := mJ29_siftUpUsingComparator) (pc := 0) dJ29_siftUpUsingComparator_0 rfl ?_
    refine x_if_leN (M := mJ29_siftUpUsingComparator) (pc := 1) 43 dJ29_siftUpUsingComparator_1 (by decide) (by omega) (fun z => ?_) (fun z => ?_)
    · exact j_suE arr x c n d hn r h0 e0 Q hE k hkn e f h a4 a5 hex hf hA hN hsm (hU.done (Or.inl z)) hF
    · have hA' := hA
      unfold PA at hA'
      have hpn : (k - 1) / 2 < n := by omega
      have hpk : (k - 1) / 2 ≠ k := by omega
      refine x_iload_n (M := mJ29_siftUpUsingComparator) (pc := 4) dJ29_siftUpUsingComparator_4 rfl ?_
      refine x_iconst (M := mJ29_siftUpUsingComparator) (pc := 5) (v := nI 1) dJ29_siftUpUsingComparator_5 (by decide) ?_
      first | with_reducible refine x_isubN (M := mJ29_siftUpUsingComparator) (pc := 6) dJ29_siftUpUsingComparator_6 (by omega) ?_ | refine x_isub (M := mJ29_siftUpUsingComparator) (pc := 6) dJ29_siftUpUsingComparator_6 ?_
      refine x_iconst (M := mJ29_siftUpUsingComparator) (pc := 7) (v := nI 1) dJ29_siftUpUsingComparator_7 (by decide) ?_
      refine x_iushr (M := mJ29_siftUpUsingComparator) (pc := 8) (v := nI ((k - 1) / 2)) dJ29_siftUpUsingComparator_8 (ush1 _ (by omega)) ?_
      refine x_istore4 (M := mJ29_siftUpUsingComparator) (pc := 9) dJ29_siftUpUsingComparator_9 ?_
      refine x_aload_n (M := mJ29_siftUpUsingComparator) (pc := 11) dJ29_siftUpUsingComparator_11 rfl ?_
      refine x_iload (M := mJ29_siftUpUsingComparator) (pc := 12) dJ29_siftUpUsingComparator_12 rfl ?_
      refine x_aaldN (M := mJ29_siftUpUsingComparator) (pc := 14) (v := .ref (e ((k - 1) / 2))) _ dJ29_siftUpUsingComparator_14 hA' rfl (by omega) (by omega) (by rw [hf _ hpn hpk]; rfl) ?_
      refine x_astore5 (M := mJ29_siftUpUsingComparator) (pc := 15) dJ29_siftUpUsingComparator_15 ?_
      refine x_aload_n (M := mJ29_siftUpUsingComparator) (pc := 17) dJ29_siftUpUsingComparator_17 rfl ?_
      refine x_aload_n (M := mJ29_siftUpUsingComparator) (pc := 18) dJ29_siftUpUsingComparator_18 rfl ?_
      refine x_aload (M := mJ29_siftUpUsingComparator) (pc := 19) dJ29_siftUpUsingComparator_19 rfl ?_
      have hNx := hN k hkn
      rw [hex] at hNx
      refine x_pcmp (M := mJ29_siftUpUsingComparator) (pc := 21) hc hNx (hN _ hpn) q2183 dJ29_siftUpUsingComparator_21 hd (Nat.le_refl _) (Nat.le_refl _) (Nat.le_of_ble_eq_true rfl) (fun w hw => ?_)
      refine x_if_lt (M := mJ29_siftUpUsingComparator) (pc := 26) 32 dJ29_siftUpUsingComparator_26 (by decide) (fun r_26 => ?_) (fun r_26 => ?_)
      · have hlt := hw.1.mp r_26
        refine x_aload_n (M := mJ29_siftUpUsingComparator) (pc := 32) dJ29_siftUpUsingComparator_32 rfl ?_
        refine x_iload_n (M := mJ29_siftUpUsingComparator) (pc := 33) dJ29_siftUpUsingComparator_33 rfl ?_
        refine x_aload (M := mJ29_siftUpUsingComparator) (pc := 34) dJ29_siftUpUsingComparator_34 rfl ?_
        refine x_aastN (M := mJ29_siftUpUsingComparator) (pc := 36) _ dJ29_siftUpUsingComparator_36 (by first | assumption | exact xu_s _ _ _ | exact (xu_n (by first | assumption | exact Ne.symm (by assumption) | exact xu_fresh (by assumption) (by assumption) | exact (xu_fresh (by assumption) (by assumption)).symm)).trans (by first | assumption | exact xu_s _ _ _ | exact (xu_n (by first | assumption | exact Ne.symm (by assumption) | exact xu_fresh (by assumption) (by assumption) | exact (xu_fresh (by assumption) (by assumption)).symm)).trans (by first | assumption | exact xu_s _ _ _ | exact (xu_n (by first | assumption | exact Ne.symm (by assumption) | exact xu_fresh (by assumption) (by assumption) | exact (xu_fresh (by assumption) (by assumption)).symm)).trans (by first | assumption | exact xu_s _ _ _)))) ((hN _ hpn).is) (Or.inr q3365) (by first | rfl | assumption) (by first | assumption | omega) (by first | decide | omega) ?_
        skip
        refine x_iload (M := mJ29_siftUpUsingComparator) (pc := 37) dJ29_siftUpUsingComparator_37 rfl ?_
        refine x_istore0 (M := mJ29_siftUpUsingComparator) (pc := 39) dJ29_siftUpUsingComparator_39 ?_
        refine x_goto (M := mJ29_siftUpUsingComparator) (pc := 40) 0 dJ29_siftUpUsingComparator_40 (by decide) ?_
        refine ih ((k - 1) / 2) (by omega) hpn (hSw e k ((k - 1) / 2)) _ _ _ _ (by simp [hSw, hpk, hex]) (fun i hi hne => ?_) (xu_s _ _ _) (obj41 hA hc) (fun i hi => ?_) (hsm.tr (hSw_sm hkn hpn)) (hU.step z hkn (by rw [hex]; exact hlt)) hF.upd (fun w hw => by cases hw; rfl)
        · by_cases q : i = k
          · subst q; simp [va_up, hSw]
          · simp [va_up, hSw, q, hne]; exact hf i hi q
        · obtain ⟨j, hj, ej⟩ := (hSw_sm (e := e) hkn hpn).1 i hi
          rw [ej]; exact (hN j hj).upA hA
      · refine x_goto (M := mJ29_siftUpUsingComparator) (pc := 29) 43 dJ29_siftUpUsingComparator_29 (by decide) ?_
        refine j_suE arr x c n d hn r h0 e0 Q hE k hkn e f h _ _ hex hf hA hN hsm (hU.done (Or.inr ?_)) hF
        have : ¬ r x < r (e ((k - 1) / 2)) := fun z => r_26 (hw.1.mpr z)
        show r (e ((k - 1) / 2)) ≤ r (e k)
        rw [hex]; omega
theorem j_sdE (arr x c n d : Nat) (hn : n ≤ 12) (r : Nat → Int) (h0 : xH) (e0 : Nat → Nat) (Q : xO → xH → Prop) (hE : ∀ e f h, hSm e0 e n → hOrd (fun i => r (e i)) n → (∀ i, i < n → f i = some (e i)) → PA g h arr f → xle1 arr h0 h → Q (.inl none) h) (k : Nat) (hkn : k < n) (e : Nat → Nat) (f : Nat → Option Nat) (h : xH) (a5 a6 a7 a8 : Option Value) (hex : e k = x) (hf : ∀ i, i < n → i ≠ k → f i = some (e i)) (hA : PA g h arr f) (hN : ∀ i, i < n → NBD h (e i) (r (e i))) (hsm : hSm e0 e n) (hO : hOrd (fun i => r (e i)) n) (hF : xle1 arr h0 h) : X g l mJ29_siftDownUsingComparator d 0 0 Q 88 [some (.int (nI k)), some (.ref x), some (.ref arr), some (.int (nI n)), some (.ref c), a5, a6, a7, a8] [] h 0 0 := by
  have hx := (hN k hkn).is (g := g)
  rw [hex] at hx
  have hA' := hA
  unfold PA at hA'
  refine x_aload_n (M := mJ29_siftDownUsingComparator) (pc := 88) dJ29_siftDownUsingComparator_88 rfl ?_
  refine x_iload_n (M := mJ29_siftDownUsingComparator) (pc := 89) dJ29_siftDownUsingComparator_89 rfl ?_
  refine x_aload_n (M := mJ29_siftDownUsingComparator) (pc := 90) dJ29_siftDownUsingComparator_90 rfl ?_
  refine x_aastN (M := mJ29_siftDownUsingComparator) (pc := 91) _ dJ29_siftDownUsingComparator_91 (by first | assumption | exact xu_s _ _ _ | exact (xu_n (by first | assumption | exact Ne.symm (by assumption) | exact xu_fresh (by assumption) (by assumption) | exact (xu_fresh (by assumption) (by assumption)).symm)).trans (by first | assumption | exact xu_s _ _ _ | exact (xu_n (by first | assumption | exact Ne.symm (by assumption) | exact xu_fresh (by assumption) (by assumption) | exact (xu_fresh (by assumption) (by assumption)).symm)).trans (by first | assumption | exact xu_s _ _ _ | exact (xu_n (by first | assumption | exact Ne.symm (by assumption) | exact xu_fresh (by assumption) (by assumption) | exact (xu_fresh (by assumption) (by assumption)).symm)).trans (by first | assumption | exact xu_s _ _ _)))) (hx) (Or.inr q3365) (by first | rfl | assumption) (by first | assumption | omega) (by first | decide | omega) ?_
  refine x_vret (M := mJ29_siftDownUsingComparator) (pc := 92) dJ29_siftDownUsingComparator_92 rfl (by first | exact Nat.le_of_ble_eq_true rfl | omega) (by first | exact Nat.le_of_ble_eq_true rfl | omega) ?_
  refine hE e _ _ hsm hO (fun i hi => ?_) (xu_s _ _ _) hF.upd
  by_cases z : i = k
  · subst z; simp [va_up, hex]
  · simp [va_up, z]; exact hf i hi z
theorem j_sd61 (arr x c n d : Nat) (hd : 3 ≤ d) (hn : n ≤ 12) (r : Nat → Int) (h0 : xH) (e0 : Nat → Nat) (Q : xO → xH → Prop) (hE : ∀ e f h, hSm e0 e n → hOrd (fun i => r (e i)) n → (∀ i, i < n → f i = some (e i)) → PA g h arr f → xle1 arr h0 h → Q (.inl none) h) (k : Nat) (hkn : k < n) (e : Nat → Nat) (f : Nat → Option Nat) (h : xH) (a8 : Option Value) (hex : e k = x) (hf : ∀ i, i < n → i ≠ k → f i = some (e i)) (hA : PA g h arr f) (hc : h c = some (.inr (41, []))) (hN : ∀ i, i < n → NBD h (e i) (r (e i))) (hsm : hSm e0 e n) (hU : hDn (fun i => r (e i)) n k) (hF : xle1 arr h0 h) (j : Nat) (hj0 : 0 < j) (hjn : j < n) (hjk : (j - 1) / 2 = k) (hmin : ∀ i, 0 < i → i < n → (i - 1) / 2 = k → r (e j) ≤ r (e i))
    (hL : ∀ (e : Nat → Nat) (f : Nat → Option Nat) (h : xH) (a6 a7 a8 : Option Value), e j = x → (∀ i, i < n → i ≠ j → f i = some (e i)) → PA g h arr f → h c = some (.inr (41, [])) → (∀ i, i < n → NBD h (e i) (r (e i))) → hSm e0 e n → hDn (fun i => r (e i)) n j → xle1 arr h0 h → (∀ w, a6 = some w → w.category = 1) → (∀ w, a7 = some w → w.category = 1) → X g l mJ29_siftDownUsingComparator d 0 0 Q 5 [some (.int (nI j)), some (.ref x), some (.ref arr), some (.int (nI n)), some (.ref c), some (.int (nI (n / 2))), a6, a7, a8] [] h 0 0) :
    X g l mJ29_siftDownUsingComparator d 0 0 Q 61 [some (.int (nI k)), some (.ref x), some (.ref arr), some (.int (nI n)), some (.ref c), some (.int (nI (n / 2))), some (.int (nI j)), some (.ref (e j)), a8] [] h 0 0 := by
  have hA' := hA
  unfold PA at hA'
  have hjk' : j ≠ k := by omega
  have hNx := hN k hkn
  rw [hex] at hNx
  refine x_aload (M := mJ29_siftDownUsingComparator) (pc := 61) dJ29_siftDownUsingComparator_61 rfl ?_
  refine x_aload_n (M := mJ29_siftDownUsingComparator) (pc := 63) dJ29_siftDownUsingComparator_63 rfl ?_
  refine x_aload (M := mJ29_siftDownUsingComparator) (pc := 64) dJ29_siftDownUsingComparator_64 rfl ?_
  refine x_pcmp (M := mJ29_siftDownUsingComparator) (pc := 66) hc hNx (hN j hjn) q2183 dJ29_siftDownUsingComparator_66 hd (Nat.le_refl _) (Nat.le_refl _) (Nat.le_of_ble_eq_true rfl) (fun w hw => ?_)
  refine x_if_gt (M := mJ29_siftDownUsingComparator) (pc := 71) 77 dJ29_siftDownUsingComparator_71 (by decide) (fun r_71 => ?_) (fun r_71 => ?_)
  · have hlt := hw.2.mp r_71
    refine x_aload_n (M := mJ29_siftDownUsingComparator) (pc := 77) dJ29_siftDownUsingComparator_77 rfl ?_
    refine x_iload_n (M := mJ29_siftDownUsingComparator) (pc := 78) dJ29_siftDownUsingComparator_78 rfl ?_
    refine x_aload (M := mJ29_siftDownUsingComparator) (pc := 79) dJ29_siftDownUsingComparator_79 rfl ?_
    refine x_aastN (M := mJ29_siftDownUsingComparator) (pc := 81) _ dJ29_siftDownUsingComparator_81 (by first | assumption | exact xu_s _ _ _ | exact (xu_n (by first | assumption | exact Ne.symm (by assumption) | exact xu_fresh (by assumption) (by assumption) | exact (xu_fresh (by assumption) (by assumption)).symm)).trans (by first | assumption | exact xu_s _ _ _ | exact (xu_n (by first | assumption | exact Ne.symm (by assumption) | exact xu_fresh (by assumption) (by assumption) | exact (xu_fresh (by assumption) (by assumption)).symm)).trans (by first | assumption | exact xu_s _ _ _ | exact (xu_n (by first | assumption | exact Ne.symm (by assumption) | exact xu_fresh (by assumption) (by assumption) | exact (xu_fresh (by assumption) (by assumption)).symm)).trans (by first | assumption | exact xu_s _ _ _)))) ((hN j hjn).is) (Or.inr q3365) (by first | rfl | assumption) (by first | assumption | omega) (by first | decide | omega) ?_
    skip
    refine x_iload (M := mJ29_siftDownUsingComparator) (pc := 82) dJ29_siftDownUsingComparator_82 rfl ?_
    refine x_istore0 (M := mJ29_siftDownUsingComparator) (pc := 84) dJ29_siftDownUsingComparator_84 ?_
    refine x_goto (M := mJ29_siftDownUsingComparator) (pc := 85) 5 dJ29_siftDownUsingComparator_85 (by decide) ?_
    refine hL (hSw e k j) _ _ _ _ _ (by simp [hSw, hjk', hex]) (fun i hi hne => ?_) (xu_s _ _ _) (obj41 hA hc) (fun i hi => ?_) (hsm.tr (hSw_sm hkn hjn)) (hU.step hj0 hjn hjk (by rw [hex]; exact hlt) hmin) hF.upd (fun w hw => by cases hw; rfl) (fun w hw => by cases hw; rfl)
    · by_cases q : i = k
      · subst q; simp [va_up, hSw]
      · simp [va_up, hSw, q, hne]; exact hf i hi q
    · obtain ⟨j', hj, ej⟩ := (hSw_sm (e := e) hkn hjn).1 i hi
      rw [ej]; exact (hN j' hj).upA hA
  · refine x_goto (M := mJ29_siftDownUsingComparator) (pc := 74) 88 dJ29_siftDownUsingComparator_74 (by decide) ?_
    refine j_sdE arr x c n d hn r h0 e0 Q hE k hkn e f h _ _ _ _ hex hf hA hN hsm (hU.done (fun i h1 h2 h3 => ?_)) hF
    have : ¬ r (e j) < r x := fun z => r_71 (hw.2.mpr z)
    have := hmin i h1 h2 h3
    show r (e k) ≤ r (e i)
    rw [hex]; omega
theorem j_sdL (arr x c n d : Nat) (hd : 3 ≤ d) (hn : n ≤ 12) (r : Nat → Int) (h0 : xH) (e0 : Nat → Nat) (Q : xO → xH → Prop) (hE : ∀ e f h, hSm e0 e n → hOrd (fun i => r (e i)) n → (∀ i, i < n → f i = some (e i)) → PA g h arr f → xle1 arr h0 h → Q (.inl none) h) : ∀ m k, n - k ≤ m → k < n → ∀ (e : Nat → Nat) (f : Nat → Option Nat) (h : xH) (a6 a7 a8 : Option Value), e k = x → (∀ i, i < n → i ≠ k → f i = some (e i)) → PA g h arr f → h c = some (.inr (41, [])) → (∀ i, i < n → NBD h (e i) (r (e i))) → hSm e0 e n → hDn (fun i => r (e i)) n k → xle1 arr h0 h → (∀ w, a6 = some w → w.category = 1) → (∀ w, a7 = some w → w.category = 1) → X g l mJ29_siftDownUsingComparator d 0 0 Q 5 [some (.int (nI k)), some (.ref x), some (.ref arr), some (.int (nI n)), some (.ref c), some (.int (nI (n / 2))), a6, a7, a8] [] h 0 0 := by
  intro m
  induction m with
  | zero => intro k h1 h2; omega
  | succ m ih =>
    intro k hk hkn e f h a6 a7 a8 hex hf hA hc hN hsm hU hF ha6 ha7
    refine x_iload_n (M := mJ29_siftDownUsingComparator) (pc := 5) dJ29_siftDownUsingComparator_5 rfl ?_
    refine x_iload (M := mJ29_siftDownUsingComparator) (pc := 6) dJ29_siftDownUsingComparator_6 rfl ?_
    refine x_icmp_geN (M := mJ29_siftDownUsingComparator) (pc := 8) 88 dJ29_siftDownUsingComparator_8 (by decide) (by omega) (by omega) (fun z => ?_) (fun z => ?_)
    · exact j_sdE arr x c n d hn r h0 e0 Q hE k hkn e f h _ _ _ _ hex hf hA hN hsm (hU.done (fun i h1 h2 h3 => by omega)) hF
    · have hA' := hA
      unfold PA at hA'
      refine x_iload_n (M := mJ29_siftDownUsingComparator) (pc := 11) dJ29_siftDownUsingComparator_11 rfl ?_
      refine x_iconst (M := mJ29_siftDownUsingComparator) (pc := 12) (v := nI 1) dJ29_siftDownUsingComparator_12 (by decide) ?_
      refine x_ishl (M := mJ29_siftDownUsingComparator) (pc := 13) dJ29_siftDownUsingComparator_13 ?_
      rw [shl1 k (by omega)]
      refine x_iconst (M := mJ29_siftDownUsingComparator) (pc := 14) (v := nI 1) dJ29_siftDownUsingComparator_14 (by decide) ?_
      first | with_reducible refine x_iaddN (M := mJ29_siftDownUsingComparator) (pc := 15) dJ29_siftDownUsingComparator_15 ?_ | refine x_iadd (M := mJ29_siftDownUsingComparator) (pc := 15) dJ29_siftDownUsingComparator_15 ?_
      refine x_istore6 (M := mJ29_siftDownUsingComparator) (pc := 16) dJ29_siftDownUsingComparator_16 ?_
      refine x_aload_n (M := mJ29_siftDownUsingComparator) (pc := 18) dJ29_siftDownUsingComparator_18 rfl ?_
      refine x_iload (M := mJ29_siftDownUsingComparator) (pc := 19) dJ29_siftDownUsingComparator_19 rfl ?_
      refine x_aaldN (M := mJ29_siftDownUsingComparator) (pc := 21) (v := .ref (e (2 * k + 1))) _ dJ29_siftDownUsingComparator_21 hA' rfl (by omega) (by omega) (by rw [hf _ (by omega) (by omega)]; rfl) ?_
      refine x_astore7 (M := mJ29_siftDownUsingComparator) (pc := 22) dJ29_siftDownUsingComparator_22 ?_
      refine x_iload (M := mJ29_siftDownUsingComparator) (pc := 24) dJ29_siftDownUsingComparator_24 rfl ?_
      refine x_iconst (M := mJ29_siftDownUsingComparator) (pc := 26) (v := nI 1) dJ29_siftDownUsingComparator_26 (by decide) ?_
      first | with_reducible refine x_iaddN (M := mJ29_siftDownUsingComparator) (pc := 27) dJ29_siftDownUsingComparator_27 ?_ | refine x_iadd (M := mJ29_siftDownUsingComparator) (pc := 27) dJ29_siftDownUsingComparator_27 ?_
      refine x_istore8 (M := mJ29_siftDownUsingComparator) (pc := 28) dJ29_siftDownUsingComparator_28 ?_
      refine x_iload (M := mJ29_siftDownUsingComparator) (pc := 30) dJ29_siftDownUsingComparator_30 rfl ?_
      refine x_iload_n (M := mJ29_siftDownUsingComparator) (pc := 32) dJ29_siftDownUsingComparator_32 rfl ?_
      refine x_icmp_geN (M := mJ29_siftDownUsingComparator) (pc := 33) 61 dJ29_siftDownUsingComparator_33 (by decide) (by omega) (by omega) (fun z2 => ?_) (fun z2 => ?_)
      · refine j_sd61 arr x c n d hd hn r h0 e0 Q hE k hkn e f h _ hex hf hA hc hN hsm hU hF (2 * k + 1) (by omega) (by omega) (by omega) (fun i h1 h2 h3 => ?_) (ih _ (by omega) (by omega))
        have : i = 2 * k + 1 := by omega
        subst this; omega
      · refine x_aload (M := mJ29_siftDownUsingComparator) (pc := 36) dJ29_siftDownUsingComparator_36 rfl ?_
        refine x_aload (M := mJ29_siftDownUsingComparator) (pc := 38) dJ29_siftDownUsingComparator_38 rfl ?_
        refine x_aload_n (M := mJ29_siftDownUsingComparator) (pc := 40) dJ29_siftDownUsingComparator_40 rfl ?_
        refine x_iload (M := mJ29_siftDownUsingComparator) (pc := 41) dJ29_siftDownUsingComparator_41 rfl ?_
        refine x_aaldN (M := mJ29_siftDownUsingComparator) (pc := 43) (v := .ref (e (2 * k + 1 + 1))) _ dJ29_siftDownUsingComparator_43 hA' rfl (by omega) (by omega) (by rw [hf _ (by omega) (by omega)]; rfl) ?_
        refine x_pcmp (M := mJ29_siftDownUsingComparator) (pc := 44) hc (hN (2 * k + 1) (by omega)) (hN (2 * k + 1 + 1) (by omega)) q2183 dJ29_siftDownUsingComparator_44 hd (Nat.le_refl _) (Nat.le_refl _) (Nat.le_of_ble_eq_true rfl) (fun w hw => ?_)
        refine x_if_le (M := mJ29_siftDownUsingComparator) (pc := 49) 61 dJ29_siftDownUsingComparator_49 (by decide) (fun r_49 => ?_) (fun r_49 => ?_)
        · refine j_sd61 arr x c n d hd hn r h0 e0 Q hE k hkn e f h _ hex hf hA hc hN hsm hU hF (2 * k + 1) (by omega) (by omega) (by omega) (fun i h1 h2 h3 => ?_) (ih _ (by omega) (by omega))
          have h4 : ¬ r (e (2 * k + 1 + 1)) < r (e (2 * k + 1)) := fun z => absurd (hw.2.mpr z) (Int32.not_lt.mpr r_49)
          have : i = 2 * k + 1 ∨ i = 2 * k + 1 + 1 := by omega
          rcases this with rfl | rfl <;> omega
        · have h4 := hw.2.mp (by rw [Int32.not_le] at r_49; exact r_49)
          refine x_aload_n (M := mJ29_siftDownUsingComparator) (pc := 52) dJ29_siftDownUsingComparator_52 rfl ?_
          refine x_iload (M := mJ29_siftDownUsingComparator) (pc := 53) dJ29_siftDownUsingComparator_53 rfl ?_
          refine x_dup (M := mJ29_siftDownUsingComparator) (pc := 55) dJ29_siftDownUsingComparator_55 ?_
          refine x_istore6 (M := mJ29_siftDownUsingComparator) (pc := 56) dJ29_siftDownUsingComparator_56 ?_
          refine x_aaldN (M := mJ29_siftDownUsingComparator) (pc := 58) (v := .ref (e (2 * k + 1 + 1))) _ dJ29_siftDownUsingComparator_58 hA' rfl (by omega) (by omega) (by rw [hf _ (by omega) (by omega)]; rfl) ?_
          refine x_astore7 (M := mJ29_siftDownUsingComparator) (pc := 59) dJ29_siftDownUsingComparator_59 ?_
          refine j_sd61 arr x c n d hd hn r h0 e0 Q hE k hkn e f h _ hex hf hA hc hN hsm hU hF (2 * k + 1 + 1) (by omega) (by omega) (by omega) (fun i h1 h2 h3 => ?_) (ih _ (by omega) (by omega))
          have : i = 2 * k + 1 ∨ i = 2 * k + 1 + 1 := by omega
          rcases this with rfl | rfl <;> omega
end JDKPQ

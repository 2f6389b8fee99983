/-! java.util.PriorityQueue: its object -/
section JDKPQ2
set_option maxRecDepth 100000
variable {g : xG} {l : Launch} {h h0 : xH}
section
variable {M : xM} {d mc ms : Nat} {Q : xO → xH → Prop} {pc : Nat} {L : List (Option Value)} {st : List Value} {uc us : Nat}
/-- a call whose named method is abstract -/
theorem x_GA {M' : xM} {d' mc' ms' n : Nat} {Q' : xO → xH → Prop} {idx : Nat} {C : String} {x : MethodName} {b : Nat} {As st0 : List Value} (hl : Cond.methodLink M.1.cls idx x ∈ lw_all) (hsm : Cond.sameMethod x.cls x.cls x.name x.desc ∈ lw_all) (hz : Cond.declares ⟨x.cls, x.name, x.desc⟩ ∈ lw_tbl) (hsel : Cond.selects C x M'.1 ∈ lw_all) (hinst : Cond.instanceMethod M'.1 ∈ lw_all) (hB : xMc M' n) (hyx : M'.1.desc = x.desc) (hmh : x.cls ≠ "java/lang/invoke/MethodHandle" ∧ x.cls ≠ "java/lang/invoke/VarHandle") (hd : decode M.2.1 pc = .ok (.invokevirtual idx, 3)) (hM : Ct g l M' d' mc' ms' (.ref b :: As) h Q') (hv : xIs g h b C) (hst : st0 = As.reverse ++ .ref b :: st) (hn : As.length = n) (hdep : d' + 1 ≤ d) (h1 : uc + mc' ≤ mc) (h2 : us + ms' ≤ ms) (hno : ∀ q h', ¬ Q' (.inr q) h') (hsum : (st.map fun v => v.category).sum ≤ 8) (kk : ∀ v h', Q' (.inl v) h' → X g l M d mc ms Q (pc + 3) L (xpush v st) h' (uc + mc') (us + ms')) : X g l M d mc ms Q pc L st0 h uc us := by
  intro p ev s m args below meth c H locs ls hC hL hR hS
  obtain ⟨hx, hb, hml, hr, hlk, hnm, hown, hts, hKs, htab⟩ := hC
  have hC : xCx g M p s m args meth c := ⟨hx, hb, hml, hr, hlk, hnm, hown, hts, hKs, htab⟩
  subst hst
  refine x_cont (va_runU (nL := M.2.2.1) (As := As) (Ts := lw_all) (bytes := M'.2.1) (maxL := M'.2.2.1) (ret := M'.2.2.2.1) (n := n) (x := x) (owner := x.cls) ⟨hx, hb, hml, hown, hts⟩ (hM.met hno) (va_cwA n hts (lw_app ?_ (xws_good hB)) (xws_code hB.2.1) rfl rfl (hKs.2.1 _ hz rfl) ⟨hmh.1, hmh.2, by rw [← hyx]; exact hB.2.2.2.1.2.2⟩ (xRoom hdep hB.2.2.2.2)) ⟨xPc_blind _, hv.recv hKs hR hS, xPc_at hKs hR hS⟩ rfl hn hL.1.1 rfl (lv_room hsum) hd ⟨h1, h2⟩) hC hL hS kk
  intro w hw
  simp only [List.mem_cons, List.not_mem_nil, or_false] at hw
  rcases hw with e | e | e | e | e
  · rw [e]; exact hl
  · rw [e]; exact hsm
  · rw [e]; exact hsel
  · rw [e]; exact hinst
  · rw [e]; exact hB.2.2.1
end
def PQ0 (g : xG) (h : xH) (pq arr c n : Nat) (md : Int32) (f : Nat → Option Nat) (r : Nat → Int) (e : Nat → Nat) : Prop := h pq = some (.inr (36, [.ref arr, .int (nI n), .ref c, .int md])) ∧ PA g h arr f ∧ (∀ i, i < n → f i = some (e i)) ∧ h c = some (.inr (41, [])) ∧ (∀ i, i < n → NBD h (e i) (r (e i))) ∧ n ≤ 12 ∧ hOrd (fun i => r (e i)) n ∧ (∀ i j, i < n → j < n → e i = e j → i = j)
/-- a queue of the n notes e -/
def PQ (g : xG) (h : xH) (pq arr c n : Nat) (r : Nat → Int) (e : Nat → Nat) : Prop := ∃ md f, PQ0 g h pq arr c n md f r e
theorem PQ.is {pq arr c n : Nat} {r : Nat → Int} {e : Nat → Nat} (hq : PQ g h pq arr c n r e) : xIs g h pq "java/util/PriorityQueue" := by
  obtain ⟨md, f, h1, -⟩ := hq; exact xIs.of kcJ29 h1
theorem j_pqSize (h : xH) (pq arr c n d : Nat) (r : Nat → Int) (e : Nat → Nat) (hq : PQ g h pq arr c n r e) : Ct g l mJ29_size d 0 0 [.ref pq] h (fun o h' => o = .inl (some (.int (nI n))) ∧ h' = h) := by
  obtain ⟨md, f, h1, -⟩ := hq
  refine Ct.of [some (.ref pq)] (by decide +kernel) rfl (Nat.le_of_ble_eq_true rfl) rfl rfl ?_
  refine x_aload_n (M := mJ29_size) (pc := 0) dJ29_size_0 rfl ?_
  refine x_get (M := mJ29_size) (pc := 1) kcJ29 1 rfl q2133 dJ29_size_1 (by first | assumption | exact xu_s _ _ _ | exact (xu_n (by first | assumption | exact Ne.symm (by assumption) | exact xu_fresh (by assumption) (by assumption) | exact (xu_fresh (by assumption) (by assumption)).symm)).trans (by first | assumption | exact xu_s _ _ _ | exact (xu_n (by first | assumption | exact Ne.symm (by assumption) | exact xu_fresh (by assumption) (by assumption) | exact (xu_fresh (by assumption) (by assumption)).symm)).trans (by first | assumption | exact xu_s _ _ _ | exact (xu_n (by first | assumption | exact Ne.symm (by assumption) | exact xu_fresh (by assumption) (by assumption) | exact (xu_fresh (by assumption) (by assumption)).symm)).trans (by first | assumption | exact xu_s _ _ _)))) rfl ?_
  refine x_iret (M := mJ29_size) (pc := 4) dJ29_size_4 rfl (by first | exact Nat.le_of_ble_eq_true rfl | omega) (by first | exact Nat.le_of_ble_eq_true rfl | omega) ?_
  exact ⟨rfl, rfl⟩
theorem j_pqEmp (h : xH) (pq arr c n d : Nat) (hd : 1 ≤ d) (r : Nat → Int) (e : Nat → Nat) (hq : PQ g h pq arr c n r e) : Ct g l mJ0_isEmpty d 0 0 [.ref pq] h (fun o h' => o = .inl (some (.int (bI (decide (n = 0))))) ∧ h' = h) := by
  have hn : n ≤ 12 := by obtain ⟨md, f, h1, h2, h3, h4, h5, h6, h7⟩ := hq; exact h6
  refine Ct.of [some (.ref pq)] (by decide +kernel) rfl (Nat.le_of_ble_eq_true rfl) rfl rfl ?_
  refine x_aload_n (M := mJ0_isEmpty) (pc := 0) dJ0_isEmpty_0 rfl ?_
  refine x_GA (M := mJ0_isEmpty) (pc := 1) (As := []) (M' := mJ29_size) (C := "java/util/PriorityQueue") q760 q762 q761 q770 q771 kCJ29_size rfl (by decide) dJ0_isEmpty_1 (j_pqSize h pq arr c n (d - 1) r e hq) hq.is rfl rfl (by omega) (Nat.le_refl _) (Nat.le_refl _) (by intro q h' hh; simp at hh) (Nat.le_of_ble_eq_true rfl) (fun v_ h hq_ => ?_)
  obtain ⟨hv_, rfl⟩ := hq_; cases hv_
  first | with_reducible refine x_ifB_ne (M := mJ0_isEmpty) (pc := 4) 11 dJ0_isEmpty_4 (by decide) (fun c4 => ?_) (fun c4 => ?_) | with_reducible refine x_if_neN (M := mJ0_isEmpty) (pc := 4) 11 dJ0_isEmpty_4 (by decide) (by omega) (fun c4 => ?_) (fun c4 => ?_) | refine x_if_ne (M := mJ0_isEmpty) (pc := 4) 11 dJ0_isEmpty_4 (by decide) (fun c4 => ?_) (fun c4 => ?_)
  · refine x_iconst (M := mJ0_isEmpty) (pc := 11) (v := nI 0) dJ0_isEmpty_11 (by decide) ?_
    refine x_zret (M := mJ0_isEmpty) (pc := 12) dJ0_isEmpty_12 rfl (by first | with_reducible exact xz0 | with_reducible exact xz1 | with_reducible exact bI_01 _ | with_reducible assumption | assumption) (by first | exact Nat.le_of_ble_eq_true rfl | omega) (by first | exact Nat.le_of_ble_eq_true rfl | omega) ?_
    first | exact ⟨congrArg Sum.inl (rV1 (by omega)), rfl⟩ | exact ⟨congrArg Sum.inl (rV0 (by omega)), rfl⟩
  · refine x_iconst (M := mJ0_isEmpty) (pc := 7) (v := nI 1) dJ0_isEmpty_7 (by decide) ?_
    refine x_goto (M := mJ0_isEmpty) (pc := 8) 12 dJ0_isEmpty_8 (by decide) ?_
    refine x_zret (M := mJ0_isEmpty) (pc := 12) dJ0_isEmpty_12 rfl (by first | with_reducible exact xz0 | with_reducible exact xz1 | with_reducible exact bI_01 _ | with_reducible assumption | assumption) (by first | exact Nat.le_of_ble_eq_true rfl | omega) (by first | exact Nat.le_of_ble_eq_true rfl | omega) ?_
    first | exact ⟨congrArg Sum.inl (rV1 (by omega)), rfl⟩ | exact ⟨congrArg Sum.inl (rV0 (by omega)), rfl⟩
theorem hUp_new {r : Nat → Int} {e : Nat → Nat} {n x : Nat} (hO : hOrd (fun i => r (e i)) n) : hUp (fun i => r (va_up e n x i)) (n + 1) n := by
  refine ⟨fun i h0 hi hne => ?_, fun hk i h0 hi hp => by omega⟩
  have h1 : i ≠ n := hne
  have h2 : (i - 1) / 2 ≠ n := by omega
  have := hO i h0 (by omega)
  simp only [va_up, h1, h2, if_false]
  exact this
theorem j_siftUp (h : xH) (pq arr c n x d : Nat) (hd : 4 ≤ d) (hn : n < 12) (md : Int32) (f : Nat → Option Nat) (r : Nat → Int) (e : Nat → Nat) (v1 : Value) (hq : h pq = some (.inr (36, [.ref arr, v1, .ref c, .int md]))) (hA : PA g h arr f) (hf : ∀ i, i < n → f i = some (e i)) (hc : h c = some (.inr (41, []))) (hN : ∀ i, i < n → NBD h (e i) (r (e i))) (hx : NBD h x (r x)) (hO : hOrd (fun i => r (e i)) n) : Ct g l mJ29_siftUp d 0 0 [.ref pq, .int (nI n), .ref x] h (fun o h' => o = .inl none ∧ ∃ e' f', hSm (va_up e n x) e' (n + 1) ∧ hOrd (fun i => r (e' i)) (n + 1) ∧ (∀ i, i < n + 1 → f' i = some (e' i)) ∧ PA g h' arr f' ∧ xle1 arr h h') := by
  have key : Ct g l mJ29_siftUpUsingComparator (d - 1) 0 0 [.int (nI n), .ref x, .ref arr, .ref c] h (fun o h' => o = .inl none ∧ ∃ e' f', hSm (va_up e n x) e' (n + 1) ∧ hOrd (fun i => r (e' i)) (n + 1) ∧ (∀ i, i < n + 1 → f' i = some (e' i)) ∧ PA g h' arr f' ∧ xle1 arr h h') := by
    refine Ct.of [some (.int (nI n)), some (.ref x), some (.ref arr), some (.ref c), none, none] (by decide +kernel) rfl (Nat.le_of_ble_eq_true rfl) rfl rfl ?_
    refine j_suL arr x c (n + 1) (d - 1) (by omega) (by omega) r h (va_up e n x) _ (fun e' f' h' w1 w2 w3 w4 w5 => ⟨rfl, e', f', w1, w2, w3, w4, w5⟩) n n (Nat.le_refl _) (by omega) (va_up e n x) f h _ _ (by simp [va_up]) (fun i hi hne => by simp [va_up, hne]; exact hf i (by omega)) hA hc (fun i hi => ?_) hSm.rf (hUp_new hO) (fun q e _ z => z) (fun w hw => by cases hw)
    by_cases q : i = n
    · subst q; simp [va_up]; exact hx
    · simp [va_up, q]; exact hN i (by omega)
  refine Ct.of [some (.ref pq), some (.int (nI n)), some (.ref x)] (by decide +kernel) rfl (Nat.le_of_ble_eq_true rfl) rfl rfl ?_
  refine x_aload_n (M := mJ29_siftUp) (pc := 0) dJ29_siftUp_0 rfl ?_
  refine x_get (M := mJ29_siftUp) (pc := 1) kcJ29 2 rfl q2134 dJ29_siftUp_1 (by first | assumption | exact xu_s _ _ _ | exact (xu_n (by first | assumption | exact Ne.symm (by assumption) | exact xu_fresh (by assumption) (by assumption) | exact (xu_fresh (by assumption) (by assumption)).symm)).trans (by first | assumption | exact xu_s _ _ _ | exact (xu_n (by first | assumption | exact Ne.symm (by assumption) | exact xu_fresh (by assumption) (by assumption) | exact (xu_fresh (by assumption) (by assumption)).symm)).trans (by first | assumption | exact xu_s _ _ _ | exact (xu_n (by first | assumption | exact Ne.symm (by assumption) | exact xu_fresh (by assumption) (by assumption) | exact (xu_fresh (by assumption) (by assumption)).symm)).trans (by first | assumption | exact xu_s _ _ _)))) rfl ?_
  refine x_ifnullR (M := mJ29_siftUp) (pc := 4) dJ29_siftUp_4 ?_
  refine x_iload_n (M := mJ29_siftUp) (pc := 7) dJ29_siftUp_7 rfl ?_
  refine x_aload_n (M := mJ29_siftUp) (pc := 8) dJ29_siftUp_8 rfl ?_
  refine x_aload_n (M := mJ29_siftUp) (pc := 9) dJ29_siftUp_9 rfl ?_
  refine x_get (M := mJ29_siftUp) (pc := 10) kcJ29 0 rfl q2131 dJ29_siftUp_10 (by first | assumption | exact xu_s _ _ _ | exact (xu_n (by first | assumption | exact Ne.symm (by assumption) | exact xu_fresh (by assumption) (by assumption) | exact (xu_fresh (by assumption) (by assumption)).symm)).trans (by first | assumption | exact xu_s _ _ _ | exact (xu_n (by first | assumption | exact Ne.symm (by assumption) | exact xu_fresh (by assumption) (by assumption) | exact (xu_fresh (by assumption) (by assumption)).symm)).trans (by first | assumption | exact xu_s _ _ _ | exact (xu_n (by first | assumption | exact Ne.symm (by assumption) | exact xu_fresh (by assumption) (by assumption) | exact (xu_fresh (by assumption) (by assumption)).symm)).trans (by first | assumption | exact xu_s _ _ _)))) rfl ?_
  refine x_aload_n (M := mJ29_siftUp) (pc := 13) dJ29_siftUp_13 rfl ?_
  refine x_get (M := mJ29_siftUp) (pc := 14) kcJ29 2 rfl q2134 dJ29_siftUp_14 (by first | assumption | exact xu_s _ _ _ | exact (xu_n (by first | assumption | exact Ne.symm (by assumption) | exact xu_fresh (by assumption) (by assumption) | exact (xu_fresh (by assumption) (by assumption)).symm)).trans (by first | assumption | exact xu_s _ _ _ | exact (xu_n (by first | assumption | exact Ne.symm (by assumption) | exact xu_fresh (by assumption) (by assumption) | exact (xu_fresh (by assumption) (by assumption)).symm)).trans (by first | assumption | exact xu_s _ _ _ | exact (xu_n (by first | assumption | exact Ne.symm (by assumption) | exact xu_fresh (by assumption) (by assumption) | exact (xu_fresh (by assumption) (by assumption)).symm)).trans (by first | assumption | exact xu_s _ _ _)))) rfl ?_
  refine x_S4 (M := mJ29_siftUp) (pc := 17) (M' := mJ29_siftUpUsingComparator) q2179 kSJ29_siftUpUsingComparator dJ29_siftUp_17 (key) (fun v_ h hq_ => ?_)
  obtain ⟨hv_, w⟩ := hq_; cases hv_
  refine x_goto (M := mJ29_siftUp) (pc := 20) 32 dJ29_siftUp_20 (by decide) ?_
  refine x_vret (M := mJ29_siftUp) (pc := 32) dJ29_siftUp_32 rfl (by first | exact Nat.le_of_ble_eq_true rfl | omega) (by first | exact Nat.le_of_ble_eq_true rfl | omega) ?_
  exact ⟨rfl, w⟩
theorem j_offer (h : xH) (pq arr c n x d : Nat) (hd : 5 ≤ d) (hn : n < 12) (r : Nat → Int) (e : Nat → Nat) (hq : PQ g h pq arr c n r e) (hx : NBD h x (r x)) (hxn : ∀ i, i < n → e i ≠ x) : Ct g l mJ29_offer d 0 0 [.ref pq, .ref x] h (fun o h' => o = .inl (some (.int (nI 1))) ∧ ∃ e', PQ g h' pq arr c (n + 1) r e' ∧ (∀ y, (∃ i, i < n + 1 ∧ e' i = y) ↔ (y = x ∨ ∃ i, i < n ∧ e i = y)) ∧ xle2 pq arr h h') := by
  obtain ⟨md, f, hp, hA, hf, hc, hN, hn12, hO, hinj⟩ := hq
  have hpa : pq ≠ arr := fun z => by unfold PA at hA; rw [← z, hp] at hA; cases hA
  have hA0 := hA
  unfold PA at hA0
  have hup : ∀ (v : Value) (md' : Int32) q c' fs, (c' = 26 ∨ c' = 7) → h q = some (.inr (c', fs)) → xu h pq (.inr (36, [.ref arr, v, .ref c, .int md'])) q = some (.inr (c', fs)) := fun v md' q c' fs hc' hq => (xu_n (fun z => by subst z; rw [hp] at hq; cases hq; omega)).trans hq
  have hcp : c ≠ pq := fun z => by rw [z, hp] at hc; cases hc
  have key : ∀ (h1 : xH) (md1 md2 : Int32) (v1 : Value) (e' : Nat → Nat) (f' : Nat → Option Nat), hSm (va_up e n x) e' (n + 1) → hOrd (fun i => r (e' i)) (n + 1) → (∀ i, i < n + 1 → f' i = some (e' i)) → PA g h1 arr f' → xle1 arr (xu h pq (.inr (36, [.ref arr, v1, .ref c, .int md1]))) h1 → ∃ e', PQ g (xu h1 pq (.inr (36, [.ref arr, .int (nI (n + 1)), .ref c, .int md2]))) pq arr c (n + 1) r e' ∧ (∀ y, (∃ i, i < n + 1 ∧ e' i = y) ↔ (y = x ∨ ∃ i, i < n ∧ e i = y)) ∧ xle2 pq arr h (xu h1 pq (.inr (36, [.ref arr, .int (nI (n + 1)), .ref c, .int md2]))) := by
    intro h1 md1 md2 v1 e' f' w1 w2 w3 w4 w5
    have fr : xle2 pq arr h (xu h1 pq (.inr (36, [.ref arr, .int (nI (n + 1)), .ref c, .int md2]))) := fun q e n1 n2 z => (xu_n n1).trans (w5 q e n2 ((xu_n n1).trans z))
    have fr2 : ∀ q c' fs, (c' = 26 ∨ c' = 7) → h q = some (.inr (c', fs)) → xu h1 pq (.inr (36, [.ref arr, .int (nI (n + 1)), .ref c, .int md2])) q = some (.inr (c', fs)) := fun q c' fs hc' hq => fr q _ (fun z => by subst z; rw [hp] at hq; cases hq; omega) (fun z => by subst z; rw [hA0] at hq; cases hq) hq
    have hE1 : ∀ i, i < n + 1 → NBD h (va_up e n x i) (r (va_up e n x i)) := fun i hi => by
      by_cases q : i = n
      · subst q; simp [va_up]; exact hx
      · simp [va_up, q]; exact hN i (by omega)
    refine ⟨e', ⟨md2, f', xu_s _ _ _, (xu_n hpa.symm).trans w4, w3, fr c _ hcp (fun z => by subst z; rw [hA0] at hc; cases hc) hc, fun i hi => ?_, by omega, w2, w1.2.2 ?_⟩, fun y => ⟨?_, ?_⟩, fr⟩
    · obtain ⟨j, hj, ej⟩ := w1.1 i hi
      rw [ej]; exact (hE1 j hj).le fr2
    · intro i j hi hj he
      by_cases q1 : i = n <;> by_cases q2 : j = n <;> simp only [va_up, q1, q2, if_true, if_false] at he
      · omega
      · exact absurd he.symm (hxn j (by omega))
      · exact absurd he (hxn i (by omega))
      · exact hinj i j (by omega) (by omega) he
    · rintro ⟨i, hi, rfl⟩
      obtain ⟨j, hj, ej⟩ := w1.1 i hi
      rw [ej]
      by_cases q : j = n
      · left; simp [va_up, q]
      · right; exact ⟨j, by omega, by simp [va_up, q]⟩
    · rintro (rfl | ⟨i, hi, rfl⟩)
      · obtain ⟨i, hi, ei⟩ := w1.2.1 n (by omega)
        exact ⟨i, hi, by rw [ei]; simp [va_up]⟩
      · obtain ⟨j, hj, ej⟩ := w1.2.1 i (by omega)
        have : i ≠ n := by omega
        exact ⟨j, hj, by rw [ej]; simp [va_up, this]⟩
  refine Ct.of [some (.ref pq), some (.ref x), none] (by decide +kernel) rfl (Nat.le_of_ble_eq_true rfl) rfl rfl ?_
  refine x_aload_n (M := mJ29_offer) (pc := 0) dJ29_offer_0 rfl ?_
  refine x_ifnonnullR (M := mJ29_offer) (pc := 1) 12 dJ29_offer_1 (by decide) ?_
  refine x_aload_n (M := mJ29_offer) (pc := 12) dJ29_offer_12 rfl ?_
  refine x_dup (M := mJ29_offer) (pc := 13) dJ29_offer_13 ?_
  refine x_get (M := mJ29_offer) (pc := 14) kcJ29 3 rfl q2136 dJ29_offer_14 (by first | assumption | exact xu_s _ _ _ | exact (xu_n (by first | assumption | exact Ne.symm (by assumption) | exact xu_fresh (by assumption) (by assumption) | exact (xu_fresh (by assumption) (by assumption)).symm)).trans (by first | assumption | exact xu_s _ _ _ | exact (xu_n (by first | assumption | exact Ne.symm (by assumption) | exact xu_fresh (by assumption) (by assumption) | exact (xu_fresh (by assumption) (by assumption)).symm)).trans (by first | assumption | exact xu_s _ _ _ | exact (xu_n (by first | assumption | exact Ne.symm (by assumption) | exact xu_fresh (by assumption) (by assumption) | exact (xu_fresh (by assumption) (by assumption)).symm)).trans (by first | assumption | exact xu_s _ _ _)))) rfl ?_
  refine x_iconst (M := mJ29_offer) (pc := 17) (v := nI 1) dJ29_offer_17 (by decide) ?_
  first | with_reducible refine x_iaddN (M := mJ29_offer) (pc := 18) dJ29_offer_18 ?_ | refine x_iadd (M := mJ29_offer) (pc := 18) dJ29_offer_18 ?_
  first | refine x_put3' (M := mJ29_offer) (pc := 19) kcJ29 q2136 dJ29_offer_19 ?_ | refine x_put3 (M := mJ29_offer) (pc := 19) kcJ29 q2136 dJ29_offer_19 (by first | assumption | exact xu_s _ _ _ | exact (xu_n (by first | assumption | exact Ne.symm (by assumption) | exact xu_fresh (by assumption) (by assumption) | exact (xu_fresh (by assumption) (by assumption)).symm)).trans (by first | assumption | exact xu_s _ _ _ | exact (xu_n (by first | assumption | exact Ne.symm (by assumption) | exact xu_fresh (by assumption) (by assumption) | exact (xu_fresh (by assumption) (by assumption)).symm)).trans (by first | assumption | exact xu_s _ _ _ | exact (xu_n (by first | assumption | exact Ne.symm (by assumption) | exact xu_fresh (by assumption) (by assumption) | exact (xu_fresh (by assumption) (by assumption)).symm)).trans (by first | assumption | exact xu_s _ _ _)))) ?_
  refine x_aload_n (M := mJ29_offer) (pc := 22) dJ29_offer_22 rfl ?_
  refine x_get (M := mJ29_offer) (pc := 23) kcJ29 1 rfl q2133 dJ29_offer_23 (by first | assumption | exact xu_s _ _ _ | exact (xu_n (by first | assumption | exact Ne.symm (by assumption) | exact xu_fresh (by assumption) (by assumption) | exact (xu_fresh (by assumption) (by assumption)).symm)).trans (by first | assumption | exact xu_s _ _ _ | exact (xu_n (by first | assumption | exact Ne.symm (by assumption) | exact xu_fresh (by assumption) (by assumption) | exact (xu_fresh (by assumption) (by assumption)).symm)).trans (by first | assumption | exact xu_s _ _ _ | exact (xu_n (by first | assumption | exact Ne.symm (by assumption) | exact xu_fresh (by assumption) (by assumption) | exact (xu_fresh (by assumption) (by assumption)).symm)).trans (by first | assumption | exact xu_s _ _ _)))) rfl ?_
  refine x_istore2 (M := mJ29_offer) (pc := 26) dJ29_offer_26 ?_
  refine x_iload_n (M := mJ29_offer) (pc := 27) dJ29_offer_27 rfl ?_
  refine x_aload_n (M := mJ29_offer) (pc := 28) dJ29_offer_28 rfl ?_
  refine x_get (M := mJ29_offer) (pc := 29) kcJ29 0 rfl q2131 dJ29_offer_29 (by first | assumption | exact xu_s _ _ _ | exact (xu_n (by first | assumption | exact Ne.symm (by assumption) | exact xu_fresh (by assumption) (by assumption) | exact (xu_fresh (by assumption) (by assumption)).symm)).trans (by first | assumption | exact xu_s _ _ _ | exact (xu_n (by first | assumption | exact Ne.symm (by assumption) | exact xu_fresh (by assumption) (by assumption) | exact (xu_fresh (by assumption) (by assumption)).symm)).trans (by first | assumption | exact xu_s _ _ _ | exact (xu_n (by first | assumption | exact Ne.symm (by assumption) | exact xu_fresh (by assumption) (by assumption) | exact (xu_fresh (by assumption) (by assumption)).symm)).trans (by first | assumption | exact xu_s _ _ _)))) rfl ?_
  refine x_alen (M := mJ29_offer) (pc := 32) dJ29_offer_32 (by first | assumption | exact xu_s _ _ _ | exact (xu_n (by first | assumption | exact Ne.symm (by assumption) | exact xu_fresh (by assumption) (by assumption) | exact (xu_fresh (by assumption) (by assumption)).symm)).trans (by first | assumption | exact xu_s _ _ _ | exact (xu_n (by first | assumption | exact Ne.symm (by assumption) | exact xu_fresh (by assumption) (by assumption) | exact (xu_fresh (by assumption) (by assumption)).symm)).trans (by first | assumption | exact xu_s _ _ _ | exact (xu_n (by first | assumption | exact Ne.symm (by assumption) | exact xu_fresh (by assumption) (by assumption) | exact (xu_fresh (by assumption) (by assumption)).symm)).trans (by first | assumption | exact xu_s _ _ _)))) rfl ?_
  refine x_icmp_ltN (M := mJ29_offer) (pc := 33) (a := n) (b := 12) 43 dJ29_offer_33 (by decide) (by omega) (by decide) (fun _ => ?_) (fun z => absurd z (by omega))
  refine x_aload_n (M := mJ29_offer) (pc := 43) dJ29_offer_43 rfl ?_
  refine x_iload_n (M := mJ29_offer) (pc := 44) dJ29_offer_44 rfl ?_
  refine x_aload_n (M := mJ29_offer) (pc := 45) dJ29_offer_45 rfl ?_
  refine x_V2 (M := mJ29_offer) (pc := 46) (M' := mJ29_siftUp) q2175 kVJ29_siftUp dJ29_offer_46 (j_siftUp _ pq arr c n x (d - 1) (by omega) hn _ f r e _ (xu_s _ _ _) ((xu_n hpa.symm).trans hA0) hf ((xu_n hcp).trans hc) (fun i hi => (hN i hi).le (hup _ _)) (hx.le (hup _ _)) hO) (xIs.of kcJ29 (xu_s _ _ _)) (fun v_ h hq_ => ?_)
  obtain ⟨hv_, e', f', w1, w2, w3, w4, w5⟩ := hq_; cases hv_; have hp' := w5 pq _ hpa (xu_s _ _ _); have w4' := w4; unfold PA at w4'
  refine x_aload_n (M := mJ29_offer) (pc := 49) dJ29_offer_49 rfl ?_
  refine x_iload_n (M := mJ29_offer) (pc := 50) dJ29_offer_50 rfl ?_
  refine x_iconst (M := mJ29_offer) (pc := 51) (v := nI 1) dJ29_offer_51 (by decide) ?_
  first | with_reducible refine x_iaddN (M := mJ29_offer) (pc := 52) dJ29_offer_52 ?_ | refine x_iadd (M := mJ29_offer) (pc := 52) dJ29_offer_52 ?_
  first | refine x_put1' (M := mJ29_offer) (pc := 53) kcJ29 q2133 dJ29_offer_53 ?_ | refine x_put1 (M := mJ29_offer) (pc := 53) kcJ29 q2133 dJ29_offer_53 (by first | assumption | exact xu_s _ _ _ | exact (xu_n (by first | assumption | exact Ne.symm (by assumption) | exact xu_fresh (by assumption) (by assumption) | exact (xu_fresh (by assumption) (by assumption)).symm)).trans (by first | assumption | exact xu_s _ _ _ | exact (xu_n (by first | assumption | exact Ne.symm (by assumption) | exact xu_fresh (by assumption) (by assumption) | exact (xu_fresh (by assumption) (by assumption)).symm)).trans (by first | assumption | exact xu_s _ _ _ | exact (xu_n (by first | assumption | exact Ne.symm (by assumption) | exact xu_fresh (by assumption) (by assumption) | exact (xu_fresh (by assumption) (by assumption)).symm)).trans (by first | assumption | exact xu_s _ _ _)))) ?_
  refine x_iconst (M := mJ29_offer) (pc := 56) (v := nI 1) dJ29_offer_56 (by decide) ?_
  refine x_zret (M := mJ29_offer) (pc := 57) dJ29_offer_57 rfl (by first | with_reducible exact xz0 | with_reducible exact xz1 | with_reducible exact bI_01 _ | with_reducible assumption | assumption) (by first | exact Nat.le_of_ble_eq_true rfl | omega) (by first | exact Nat.le_of_ble_eq_true rfl | omega) ?_
  exact ⟨rfl, key _ _ _ _ e' f' w1 w2 w3 w4 w5⟩
theorem j_pqAdd (h : xH) (pq arr c n x d : Nat) (hd : 6 ≤ d) (hn : n < 12) (r : Nat → Int) (e : Nat → Nat) (hq : PQ g h pq arr c n r e) (hx : NBD h x (r x)) (hxn : ∀ i, i < n → e i ≠ x) : Ct g l mJ29_add d 0 0 [.ref pq, .ref x] h (fun o h' => o = .inl (some (.int (nI 1))) ∧ ∃ e', PQ g h' pq arr c (n + 1) r e' ∧ (∀ y, (∃ i, i < n + 1 ∧ e' i = y) ↔ (y = x ∨ ∃ i, i < n ∧ e i = y)) ∧ xle2 pq arr h h') := by
  refine Ct.of [some (.ref pq), some (.ref x)] (by decide +kernel) rfl (Nat.le_of_ble_eq_true rfl) rfl rfl ?_
  refine x_aload_n (M := mJ29_add) (pc := 0) dJ29_add_0 rfl ?_
  refine x_aload_n (M := mJ29_add) (pc := 1) dJ29_add_1 rfl ?_
  refine x_V1 (M := mJ29_add) (pc := 2) (M' := mJ29_offer) q2166 kVJ29_offer dJ29_add_2 (j_offer h pq arr c n x (d - 1) (by omega) hn r e hq hx hxn) (hq.is) (fun v_ h hq_ => ?_)
  obtain ⟨hv_, w⟩ := hq_; cases hv_
  refine x_zret (M := mJ29_add) (pc := 5) dJ29_add_5 rfl (by first | with_reducible exact xz0 | with_reducible exact xz1 | with_reducible exact bI_01 _ | with_reducible assumption | assumption) (by first | exact Nat.le_of_ble_eq_true rfl | omega) (by first | exact Nat.le_of_ble_eq_true rfl | omega) ?_
  exact ⟨rfl, w⟩
theorem j_aqInit (h : xH) (a d : Nat) (hd : 2 ≤ d) : Ct g l mJ28_init d 0 0 [.ref a] h (fun o h' => o = .inl none ∧ h' = h) := by
  refine Ct.of [some (.ref a)] (by decide +kernel) rfl (Nat.le_of_ble_eq_true rfl) rfl rfl ?_
  refine x_aload_n (M := mJ28_init) (pc := 0) dJ28_init_0 rfl ?_
  refine x_I0 (M := mJ28_init) (pc := 1) (M' := mJ0_init) q2128 kIJ0_init dJ28_init_1 (j_acInit h a (d - 1) (by omega)) (fun v_ h hq_ => ?_)
  obtain ⟨hv_, rfl⟩ := hq_; cases hv_
  refine x_vret (M := mJ28_init) (pc := 4) dJ28_init_4 rfl (by first | exact Nat.le_of_ble_eq_true rfl | omega) (by first | exact Nat.le_of_ble_eq_true rfl | omega) ?_
  exact ⟨rfl, rfl⟩
theorem j_pqInit (h : xH) (pq c d : Nat) (hd : 3 ≤ d) (hc : h c = some (.inr (41, []))) (hq : h pq = some (.inr (36, [.null, .int (nI 0), .null, .int (nI 0)]))) : Ct g l mJ29_init d 1 12 [.ref pq, .int (nI 12), .ref c] h (fun o h' => o = .inl none ∧ ∃ arr, h arr = none ∧ (∀ r e, PQ g h' pq arr c 0 r e) ∧ xle1 pq h h') := by
  have hcp : c ≠ pq := fun z => by rw [z, hq] at hc; cases hc
  refine Ct.of [some (.ref pq), some (.int (nI 12)), some (.ref c)] (by decide +kernel) rfl (Nat.le_of_ble_eq_true rfl) rfl rfl ?_
  refine x_aload_n (M := mJ29_init) (pc := 0) dJ29_init_0 rfl ?_
  refine x_I0 (M := mJ29_init) (pc := 1) (M' := mJ28_init) q2125 kIJ28_init dJ29_init_1 (j_aqInit h pq (d - 1) (by omega)) (fun v_ h hq_ => ?_)
  obtain ⟨hv_, rfl⟩ := hq_; cases hv_
  refine x_iload_n (M := mJ29_init) (pc := 4) dJ29_init_4 rfl ?_
  refine x_iconst (M := mJ29_init) (pc := 5) (v := nI 1) dJ29_init_5 (by decide) ?_
  skip
  refine x_icmp_geN (M := mJ29_init) (pc := 6) (a := 12) (b := 1) 17 dJ29_init_6 (by decide) (by decide) (by decide) (fun _ => ?_) (fun z => absurd z (by decide))
  refine x_aload_n (M := mJ29_init) (pc := 17) dJ29_init_17 rfl ?_
  refine x_iload_n (M := mJ29_init) (pc := 18) dJ29_init_18 rfl ?_
  refine x_anew (M := mJ29_init) (pc := 19) 3 _ q2129 q323 dJ29_init_19 (by first | rfl | assumption) (by first | exact Nat.le_of_ble_eq_true rfl | omega) (by first | exact Nat.le_of_ble_eq_true rfl | omega) (by first | exact Nat.le_of_ble_eq_true rfl | omega) (fun q19_ hq19_ hb19_ => ?_)
  (try simp only [xu_noneI] at hq19_)
  repeat (obtain ⟨_, hq19_⟩ : _ ∧ _ := hq19_)
  have hqp : pq ≠ q19_ := fun z => by rw [← z, hq] at hq19_; cases hq19_
  have hqp' := hqp.symm
  have hqc : c ≠ q19_ := fun z => by rw [← z, hc] at hq19_; cases hq19_
  first | refine x_put0' (M := mJ29_init) (pc := 22) kcJ29 q2131 dJ29_init_22 ?_ | refine x_put0 (M := mJ29_init) (pc := 22) kcJ29 q2131 dJ29_init_22 (by first | assumption | exact xu_s _ _ _ | exact (xu_n (by first | assumption | exact Ne.symm (by assumption) | exact xu_fresh (by assumption) (by assumption) | exact (xu_fresh (by assumption) (by assumption)).symm)).trans (by first | assumption | exact xu_s _ _ _ | exact (xu_n (by first | assumption | exact Ne.symm (by assumption) | exact xu_fresh (by assumption) (by assumption) | exact (xu_fresh (by assumption) (by assumption)).symm)).trans (by first | assumption | exact xu_s _ _ _ | exact (xu_n (by first | assumption | exact Ne.symm (by assumption) | exact xu_fresh (by assumption) (by assumption) | exact (xu_fresh (by assumption) (by assumption)).symm)).trans (by first | assumption | exact xu_s _ _ _)))) ?_
  refine x_aload_n (M := mJ29_init) (pc := 25) dJ29_init_25 rfl ?_
  refine x_aload_n (M := mJ29_init) (pc := 26) dJ29_init_26 rfl ?_
  first | refine x_putF2' (M := mJ29_init) (pc := 27) kcJ29 q2134 dJ29_init_27 ?_ | refine x_putF2 (M := mJ29_init) (pc := 27) kcJ29 q2134 dJ29_init_27 (by first | assumption | exact xu_s _ _ _ | exact (xu_n (by first | assumption | exact Ne.symm (by assumption) | exact xu_fresh (by assumption) (by assumption) | exact (xu_fresh (by assumption) (by assumption)).symm)).trans (by first | assumption | exact xu_s _ _ _ | exact (xu_n (by first | assumption | exact Ne.symm (by assumption) | exact xu_fresh (by assumption) (by assumption) | exact (xu_fresh (by assumption) (by assumption)).symm)).trans (by first | assumption | exact xu_s _ _ _ | exact (xu_n (by first | assumption | exact Ne.symm (by assumption) | exact xu_fresh (by assumption) (by assumption) | exact (xu_fresh (by assumption) (by assumption)).symm)).trans (by first | assumption | exact xu_s _ _ _)))) ?_
  refine x_vret (M := mJ29_init) (pc := 30) dJ29_init_30 rfl (by first | exact Nat.le_of_ble_eq_true rfl | omega) (by first | exact Nat.le_of_ble_eq_true rfl | omega) ?_
  refine ⟨rfl, q19_, hq19_, fun r e => ⟨_, _, xu_s _ _ _, (xu_n hqp').trans (xu_s _ _ _), (fun i hi => absurd hi (by omega)), (xu_n hcp).trans ((xu_n hqc).trans hc), (fun i hi => absurd hi (by omega)), by omega, (fun i _ hi => absurd hi (by omega)), (fun i j hi => absurd hi (by omega))⟩, fun q e n1 z => (xu_n n1).trans (xle.fr hq19_ q e z)⟩
theorem hDn_new {r : Nat → Int} {e : Nat → Nat} {m x : Nat} (hO : hOrd (fun i => r (e i)) (m + 1)) : hDn (fun i => r (va_up e 0 x i)) m 0 := by
  refine ⟨fun i h0 hi hne => ?_, fun hk => by omega⟩
  have h1 : i ≠ 0 := by omega
  have h2 : (i - 1) / 2 ≠ 0 := hne
  have := hO i h0 (by omega)
  simp only [va_up, h1, h2, if_false]
  exact this
theorem j_sdC (h : xH) (arr c m x d : Nat) (hd : 3 ≤ d) (hm : m ≤ 12) (hm0 : 0 < m) (f : Nat → Option Nat) (r : Nat → Int) (e : Nat → Nat) (hA : PA g h arr f) (hf : ∀ i, i < m → i ≠ 0 → f i = some (e i)) (hc : h c = some (.inr (41, []))) (hN : ∀ i, i < m → NBD h (e i) (r (e i))) (hx : NBD h x (r x)) (hO : hOrd (fun i => r (e i)) (m + 1)) : Ct g l mJ29_siftDownUsingComparator d 0 0 [.int (nI 0), .ref x, .ref arr, .int (nI m), .ref c] h (fun o h' => o = .inl none ∧ ∃ e' f', hSm (va_up e 0 x) e' m ∧ hOrd (fun i => r (e' i)) m ∧ (∀ i, i < m → f' i = some (e' i)) ∧ PA g h' arr f' ∧ xle1 arr h h') := by
  refine Ct.of [some (.int (nI 0)), some (.ref x), some (.ref arr), some (.int (nI m)), some (.ref c), none, none, none, none] (by decide +kernel) rfl (Nat.le_of_ble_eq_true rfl) rfl rfl ?_
  refine x_iload_n (M := mJ29_siftDownUsingComparator) (pc := 0) dJ29_siftDownUsingComparator_0 rfl ?_
  refine x_iconst (M := mJ29_siftDownUsingComparator) (pc := 1) (v := nI 1) dJ29_siftDownUsingComparator_1 (by decide) ?_
  refine x_iushr (M := mJ29_siftDownUsingComparator) (pc := 2) (v := nI (m / 2)) dJ29_siftDownUsingComparator_2 (ush1 _ (by omega)) ?_
  refine x_istore5 (M := mJ29_siftDownUsingComparator) (pc := 3) dJ29_siftDownUsingComparator_3 ?_
  refine j_sdL arr x c m d hd hm r h (va_up e 0 x) _ (fun e' f' h' w1 w2 w3 w4 w5 => ⟨rfl, e', f', w1, w2, w3, w4, w5⟩) m 0 (by omega) hm0 (va_up e 0 x) f h _ _ _ (by simp [va_up]) (fun i hi hne => by simp [va_up, hne]; exact hf i hi hne) hA hc (fun i hi => ?_) hSm.rf (hDn_new hO) (fun q e _ z => z) (fun w hw => by cases hw) (fun w hw => by cases hw)
  by_cases q : i = 0
  · subst q; simp [va_up]; exact hx
  · simp [va_up, q]; exact hN i hi
theorem va_upn {α : Type} (f : Nat → α) {i m : Nat} {v : α} (h : i ≠ m) : va_up f m v i = f i := by simp [va_up, h]
theorem j_poll (h : xH) (pq arr c m d : Nat) (hd : 4 ≤ d) (r : Nat → Int) (e : Nat → Nat) (hq : PQ g h pq arr c (m + 1) r e) : Ct g l mJ29_poll d 0 0 [.ref pq] h (fun o h' => o = .inl (some (.ref (e 0))) ∧ (∀ i, i < m + 1 → r (e 0) ≤ r (e i)) ∧ (∃ e', PQ g h' pq arr c m r e' ∧ ∀ y, (∃ i, i < m ∧ e' i = y) ↔ (y ≠ e 0 ∧ ∃ i, i < m + 1 ∧ e i = y)) ∧ xle2 pq arr h h') := by
  obtain ⟨md, f, hp, hA, hf, hc, hN, hn12, hO, hinj⟩ := hq
  have hpa : pq ≠ arr := fun z => by unfold PA at hA; rw [← z, hp] at hA; cases hA
  have hpa' := hpa.symm
  have hA0 := hA
  unfold PA at hA0
  have hcp : c ≠ pq := fun z => by rw [z, hp] at hc; cases hc
  have hca : c ≠ arr := fun z => by rw [z, hA0] at hc; cases hc
  have hmin : ∀ i, i < m + 1 → r (e 0) ≤ r (e i) := fun i hi => hO.root i i (Nat.le_refl _) hi
  have fr2 : ∀ h2, xle2 pq arr h h2 → ∀ q c' fs, (c' = 26 ∨ c' = 7) → h q = some (.inr (c', fs)) → h2 q = some (.inr (c', fs)) := fun h2 fr q c' fs hc' hq => fr q _ (fun z => by subst z; rw [hp] at hq; cases hq; omega) (fun z => by subst z; rw [hA0] at hq; cases hq) hq
  have key : ∀ (h2 : xH) (md2 : Int32) (e' : Nat → Nat) (f' : Nat → Option Nat), hSm (va_up e 0 (e m)) e' m → hOrd (fun i => r (e' i)) m → (∀ i, i < m → f' i = some (e' i)) → PA g h2 arr f' → xle2 pq arr h h2 → h2 pq = some (.inr (36, [.ref arr, .int (nI m), .ref c, .int md2])) → (∃ e', PQ g h2 pq arr c m r e' ∧ ∀ y, (∃ i, i < m ∧ e' i = y) ↔ (y ≠ e 0 ∧ ∃ i, i < m + 1 ∧ e i = y)) := by
    intro h2 md2 e' f' w1 w2 w3 w4 fr hp2
    have hE1 : ∀ i, i < m → ∃ j, 0 < j ∧ j < m + 1 ∧ va_up e 0 (e m) i = e j := fun i hi => by
      by_cases q : i = 0
      · subst q; exact ⟨m, by omega, by omega, by simp [va_up]⟩
      · exact ⟨i, by omega, by omega, by simp [va_up, q]⟩
    refine ⟨e', ⟨md2, f', hp2, w4, w3, fr c _ hcp hca hc, fun i hi => ?_, by omega, w2, w1.2.2 ?_⟩, fun y => ⟨?_, ?_⟩⟩
    · obtain ⟨j, hj, ej⟩ := w1.1 i hi
      obtain ⟨k, _, hk, ek⟩ := hE1 j hj
      rw [ej, ek]; exact (hN k hk).le (fr2 h2 fr)
    · intro i j hi hj he
      have h1 := hinj i j (by omega) (by omega)
      have h2 := hinj m j (by omega) (by omega)
      have h3 := hinj i m (by omega) (by omega)
      by_cases q1 : i = 0 <;> by_cases q2 : j = 0 <;> simp only [va_up, q1, q2, if_true, if_false] at he
      · omega
      · have := h2 he; omega
      · have := h3 he; omega
      · exact h1 he
    · rintro ⟨i, hi, rfl⟩
      obtain ⟨j, hj, ej⟩ := w1.1 i hi
      obtain ⟨k, hk0, hk, ek⟩ := hE1 j hj
      rw [ej, ek]
      exact ⟨fun z => by have := hinj k 0 hk (by omega) z; omega, k, hk, rfl⟩
    · rintro ⟨hne, i, hi, rfl⟩
      by_cases q : i = m
      · have hm0 : 0 < m := by
          rcases Nat.eq_zero_or_pos m with z | z
          · subst z; subst q; exact absurd rfl hne
          · exact z
        obtain ⟨j, hj, ej⟩ := w1.2.1 0 hm0
        exact ⟨j, hj, by rw [ej, q]; simp [va_up]⟩
      · have hi0 : i ≠ 0 := fun z => by subst z; exact hne rfl
        obtain ⟨j, hj, ej⟩ := w1.2.1 i (by omega)
        exact ⟨j, hj, by rw [ej]; simp [va_up, hi0]⟩
  refine Ct.of [some (.ref pq), none, none, none, none, none] (by decide +kernel) rfl (Nat.le_of_ble_eq_true rfl) rfl rfl ?_
  refine x_aload_n (M := mJ29_poll) (pc := 0) dJ29_poll_0 rfl ?_
  refine x_get (M := mJ29_poll) (pc := 1) kcJ29 0 rfl q2131 dJ29_poll_1 (by first | assumption | exact xu_s _ _ _ | exact (xu_n (by first | assumption | exact Ne.symm (by assumption) | exact xu_fresh (by assumption) (by assumption) | exact (xu_fresh (by assumption) (by assumption)).symm)).trans (by first | assumption | exact xu_s _ _ _ | exact (xu_n (by first | assumption | exact Ne.symm (by assumption) | exact xu_fresh (by assumption) (by assumption) | exact (xu_fresh (by assumption) (by assumption)).symm)).trans (by first | assumption | exact xu_s _ _ _ | exact (xu_n (by first | assumption | exact Ne.symm (by assumption) | exact xu_fresh (by assumption) (by assumption) | exact (xu_fresh (by assumption) (by assumption)).symm)).trans (by first | assumption | exact xu_s _ _ _)))) rfl ?_
  refine x_dup (M := mJ29_poll) (pc := 4) dJ29_poll_4 ?_
  refine x_astore1 (M := mJ29_poll) (pc := 5) dJ29_poll_5 ?_
  refine x_iconst (M := mJ29_poll) (pc := 6) (v := nI 0) dJ29_poll_6 (by decide) ?_
  refine x_aaldN (M := mJ29_poll) (pc := 7) (v := .ref (e 0)) 0 dJ29_poll_7 hA0 rfl (by omega) (by omega) (by rw [hf _ (by omega)]; rfl) ?_
  refine x_dup (M := mJ29_poll) (pc := 8) dJ29_poll_8 ?_
  refine x_astore2 (M := mJ29_poll) (pc := 9) dJ29_poll_9 ?_
  refine x_ifnullR (M := mJ29_poll) (pc := 10) dJ29_poll_10 ?_
  refine x_aload_n (M := mJ29_poll) (pc := 13) dJ29_poll_13 rfl ?_
  refine x_dup (M := mJ29_poll) (pc := 14) dJ29_poll_14 ?_
  refine x_get (M := mJ29_poll) (pc := 15) kcJ29 3 rfl q2136 dJ29_poll_15 (by first | assumption | exact xu_s _ _ _ | exact (xu_n (by first | assumption | exact Ne.symm (by assumption) | exact xu_fresh (by assumption) (by assumption) | exact (xu_fresh (by assumption) (by assumption)).symm)).trans (by first | assumption | exact xu_s _ _ _ | exact (xu_n (by first | assumption | exact Ne.symm (by assumption) | exact xu_fresh (by assumption) (by assumption) | exact (xu_fresh (by assumption) (by assumption)).symm)).trans (by first | assumption | exact xu_s _ _ _ | exact (xu_n (by first | assumption | exact Ne.symm (by assumption) | exact xu_fresh (by assumption) (by assumption) | exact (xu_fresh (by assumption) (by assumption)).symm)).trans (by first | assumption | exact xu_s _ _ _)))) rfl ?_
  refine x_iconst (M := mJ29_poll) (pc := 18) (v := nI 1) dJ29_poll_18 (by decide) ?_
  first | with_reducible refine x_iaddN (M := mJ29_poll) (pc := 19) dJ29_poll_19 ?_ | refine x_iadd (M := mJ29_poll) (pc := 19) dJ29_poll_19 ?_
  first | refine x_put3' (M := mJ29_poll) (pc := 20) kcJ29 q2136 dJ29_poll_20 ?_ | refine x_put3 (M := mJ29_poll) (pc := 20) kcJ29 q2136 dJ29_poll_20 (by first | assumption | exact xu_s _ _ _ | exact (xu_n (by first | assumption | exact Ne.symm (by assumption) | exact xu_fresh (by assumption) (by assumption) | exact (xu_fresh (by assumption) (by assumption)).symm)).trans (by first | assumption | exact xu_s _ _ _ | exact (xu_n (by first | assumption | exact Ne.symm (by assumption) | exact xu_fresh (by assumption) (by assumption) | exact (xu_fresh (by assumption) (by assumption)).symm)).trans (by first | assumption | exact xu_s _ _ _ | exact (xu_n (by first | assumption | exact Ne.symm (by assumption) | exact xu_fresh (by assumption) (by assumption) | exact (xu_fresh (by assumption) (by assumption)).symm)).trans (by first | assumption | exact xu_s _ _ _)))) ?_
  refine x_aload_n (M := mJ29_poll) (pc := 23) dJ29_poll_23 rfl ?_
  refine x_aload_n (M := mJ29_poll) (pc := 24) dJ29_poll_24 rfl ?_
  refine x_dup (M := mJ29_poll) (pc := 25) dJ29_poll_25 ?_
  refine x_get (M := mJ29_poll) (pc := 26) kcJ29 1 rfl q2133 dJ29_poll_26 (by first | assumption | exact xu_s _ _ _ | exact (xu_n (by first | assumption | exact Ne.symm (by assumption) | exact xu_fresh (by assumption) (by assumption) | exact (xu_fresh (by assumption) (by assumption)).symm)).trans (by first | assumption | exact xu_s _ _ _ | exact (xu_n (by first | assumption | exact Ne.symm (by assumption) | exact xu_fresh (by assumption) (by assumption) | exact (xu_fresh (by assumption) (by assumption)).symm)).trans (by first | assumption | exact xu_s _ _ _ | exact (xu_n (by first | assumption | exact Ne.symm (by assumption) | exact xu_fresh (by assumption) (by assumption) | exact (xu_fresh (by assumption) (by assumption)).symm)).trans (by first | assumption | exact xu_s _ _ _)))) rfl ?_
  refine x_iconst (M := mJ29_poll) (pc := 29) (v := nI 1) dJ29_poll_29 (by decide) ?_
  first | with_reducible refine x_isubN (M := mJ29_poll) (pc := 30) dJ29_poll_30 (by omega) ?_ | refine x_isub (M := mJ29_poll) (pc := 30) dJ29_poll_30 ?_
  refine x_dup_x1 (M := mJ29_poll) (pc := 31) dJ29_poll_31 ?_
  first | refine x_put1' (M := mJ29_poll) (pc := 32) kcJ29 q2133 dJ29_poll_32 ?_ | refine x_put1 (M := mJ29_poll) (pc := 32) kcJ29 q2133 dJ29_poll_32 (by first | assumption | exact xu_s _ _ _ | exact (xu_n (by first | assumption | exact Ne.symm (by assumption) | exact xu_fresh (by assumption) (by assumption) | exact (xu_fresh (by assumption) (by assumption)).symm)).trans (by first | assumption | exact xu_s _ _ _ | exact (xu_n (by first | assumption | exact Ne.symm (by assumption) | exact xu_fresh (by assumption) (by assumption) | exact (xu_fresh (by assumption) (by assumption)).symm)).trans (by first | assumption | exact xu_s _ _ _ | exact (xu_n (by first | assumption | exact Ne.symm (by assumption) | exact xu_fresh (by assumption) (by assumption) | exact (xu_fresh (by assumption) (by assumption)).symm)).trans (by first | assumption | exact xu_s _ _ _)))) ?_
  refine x_dup (M := mJ29_poll) (pc := 35) dJ29_poll_35 ?_
  refine x_istore3 (M := mJ29_poll) (pc := 36) dJ29_poll_36 ?_
  refine x_aaldN (M := mJ29_poll) (pc := 37) (v := .ref (e m)) m dJ29_poll_37 ((xu_n hpa').trans hA0) (by simp) (by omega) (by omega) (by rw [hf _ (by omega)]; rfl) ?_
  simp only [Nat.add_sub_cancel]
  refine x_astore4 (M := mJ29_poll) (pc := 38) dJ29_poll_38 ?_
  refine x_aload_n (M := mJ29_poll) (pc := 40) dJ29_poll_40 rfl ?_
  refine x_iload_n (M := mJ29_poll) (pc := 41) dJ29_poll_41 rfl ?_
  refine x_null (M := mJ29_poll) (pc := 42) dJ29_poll_42 ?_
  refine x_aastZ (M := mJ29_poll) (pc := 43) _ dJ29_poll_43 (by first | assumption | exact xu_s _ _ _ | exact (xu_n (by first | assumption | exact Ne.symm (by assumption) | exact xu_fresh (by assumption) (by assumption) | exact (xu_fresh (by assumption) (by assumption)).symm)).trans (by first | assumption | exact xu_s _ _ _ | exact (xu_n (by first | assumption | exact Ne.symm (by assumption) | exact xu_fresh (by assumption) (by assumption) | exact (xu_fresh (by assumption) (by assumption)).symm)).trans (by first | assumption | exact xu_s _ _ _ | exact (xu_n (by first | assumption | exact Ne.symm (by assumption) | exact xu_fresh (by assumption) (by assumption) | exact (xu_fresh (by assumption) (by assumption)).symm)).trans (by first | assumption | exact xu_s _ _ _)))) (by first | rfl | assumption) (by first | assumption | omega) (by first | decide | omega) ?_
  refine x_iload_n (M := mJ29_poll) (pc := 44) dJ29_poll_44 rfl ?_
  skip
  have hfr : xle2 pq arr h (xu (xu h pq (.inr (36, [.ref arr, .int (nI m), .ref c, .int (md + nI 1)]))) arr (.inl (xdA g 3, 12, .inr (.inr (.inr (.inr (va_up f m none))))))) := fun q e n1 n2 z => (xu_n n2).trans ((xu_n n1).trans z)
  refine x_if_leN (M := mJ29_poll) (pc := 45) (a := m) 79 dJ29_poll_45 (by decide) (by omega) (fun z => ?_) (fun z => ?_)
  · subst z
    refine x_aload_n (M := mJ29_poll) (pc := 79) dJ29_poll_79 rfl ?_
    refine x_aret (M := mJ29_poll) (pc := 80) dJ29_poll_80 rfl (by first | exact Or.inl ⟨_, rfl⟩ | exact Or.inr ⟨_, rfl⟩) (by first | exact Nat.le_of_ble_eq_true rfl | omega) (by first | exact Nat.le_of_ble_eq_true rfl | omega) ?_
    exact ⟨rfl, hmin, key _ _ e _ ⟨(fun i hi => absurd hi (by omega)), (fun i hi => absurd hi (by omega)), (fun _ i j hi => absurd hi (by omega))⟩ (fun i _ hi => absurd hi (by omega)) (fun i hi => absurd hi (by omega)) (xu_s _ _ _) hfr ((xu_n hpa).trans (xu_s _ _ _)), hfr⟩
  · refine x_aload_n (M := mJ29_poll) (pc := 48) dJ29_poll_48 rfl ?_
    refine x_get (M := mJ29_poll) (pc := 49) kcJ29 2 rfl q2134 dJ29_poll_49 (by first | assumption | exact xu_s _ _ _ | exact (xu_n (by first | assumption | exact Ne.symm (by assumption) | exact xu_fresh (by assumption) (by assumption) | exact (xu_fresh (by assumption) (by assumption)).symm)).trans (by first | assumption | exact xu_s _ _ _ | exact (xu_n (by first | assumption | exact Ne.symm (by assumption) | exact xu_fresh (by assumption) (by assumption) | exact (xu_fresh (by assumption) (by assumption)).symm)).trans (by first | assumption | exact xu_s _ _ _ | exact (xu_n (by first | assumption | exact Ne.symm (by assumption) | exact xu_fresh (by assumption) (by assumption) | exact (xu_fresh (by assumption) (by assumption)).symm)).trans (by first | assumption | exact xu_s _ _ _)))) rfl ?_
    refine x_dup (M := mJ29_poll) (pc := 52) dJ29_poll_52 ?_
    refine x_astore5 (M := mJ29_poll) (pc := 53) dJ29_poll_53 ?_
    refine x_ifnonnullR (M := mJ29_poll) (pc := 55) 69 dJ29_poll_55 (by decide) ?_
    refine x_iconst (M := mJ29_poll) (pc := 69) (v := nI 0) dJ29_poll_69 (by decide) ?_
    refine x_aload (M := mJ29_poll) (pc := 70) dJ29_poll_70 rfl ?_
    refine x_aload_n (M := mJ29_poll) (pc := 72) dJ29_poll_72 rfl ?_
    refine x_iload_n (M := mJ29_poll) (pc := 73) dJ29_poll_73 rfl ?_
    refine x_aload (M := mJ29_poll) (pc := 74) dJ29_poll_74 rfl ?_
    refine x_S5 (M := mJ29_poll) (pc := 76) (M' := mJ29_siftDownUsingComparator) q2440 kSJ29_siftDownUsingComparator dJ29_poll_76 (j_sdC _ arr c m (e m) (d - 1) (by omega) (by omega) z _ r e (xu_s _ _ _) (fun i hi hne => (va_upn f (by omega)).trans (hf i (by omega))) (hfr c _ hcp hca hc) (fun i hi => (hN i (by omega)).le (fr2 _ hfr)) ((hN m (by omega)).le (fr2 _ hfr)) hO) (fun v_ h hq_ => ?_)
    obtain ⟨hv_, e', f', w1, w2, w3, w4, w5⟩ := hq_; cases hv_
    skip
    refine x_aload_n (M := mJ29_poll) (pc := 79) dJ29_poll_79 rfl ?_
    refine x_aret (M := mJ29_poll) (pc := 80) dJ29_poll_80 rfl (by first | exact Or.inl ⟨_, rfl⟩ | exact Or.inr ⟨_, rfl⟩) (by first | exact Nat.le_of_ble_eq_true rfl | omega) (by first | exact Nat.le_of_ble_eq_true rfl | omega) ?_
    exact ⟨rfl, hmin, key _ _ e' f' w1 w2 w3 w4 (fun q e n1 n2 z => w5 q e n2 (hfr q e n1 n2 z)) (w5 pq _ hpa ((xu_n hpa).trans (xu_s _ _ _))), fun q e n1 n2 z => w5 q e n2 (hfr q e n1 n2 z)⟩
end JDKPQ2

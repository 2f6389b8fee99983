/-! Booklet.join -/
section JOIN
set_option maxRecDepth 100000
variable {g : xG} {l : Launch} {h h0 h' : xH}
def jtE (x : Jt) : va_E := .inr (9, [.int (nI x.1), .int (nI x.2.1), .int (nI x.2.2)])
theorem c_jtInit (h : xH) (a u lo e d : Nat) (v0 v1 v2 : Value) (hd : 2 ≤ d) (ha : h a = some (.inr (9, [v0, v1, v2]))) : Ct g l mX9_init d 0 0 [.ref a, .int (nI u), .int (nI lo), .int (nI e)] h (fun o h' => o = .inl none ∧ h' = xu h a (jtE (u, lo, e))) := by
  refine Ct.of [some (.ref a), some (.int (nI u)), some (.int (nI lo)), some (.int (nI e))] (by decide +kernel) rfl (Nat.le_of_ble_eq_true rfl) rfl rfl ?_
  refine x_aload_n (M := mX9_init) (pc := 0) dX9_init_0 rfl ?_
  refine x_I0 (M := mX9_init) (pc := 1) (M' := mJ8_init) q1150 kIJ8_init dX9_init_1 (j_recInit h a (d - 1) (by omega)) (fun v_ h hq_ => ?_)
  obtain ⟨hv_, rfl⟩ := hq_; cases hv_
  refine x_aload_n (M := mX9_init) (pc := 4) dX9_init_4 rfl ?_
  refine x_iload_n (M := mX9_init) (pc := 5) dX9_init_5 rfl ?_
  first | refine x_putF0' (M := mX9_init) (pc := 6) kcX9 q1151 dX9_init_6 ?_ | refine x_putF0 (M := mX9_init) (pc := 6) kcX9 q1151 dX9_init_6 (by first | assumption | exact xu_s _ _ _ | exact (xu_n (by first | assumption | exact Ne.symm (by assumption) | exact xu_fresh (by assumption) (by assumption) | exact (xu_fresh (by assumption) (by assumption)).symm)).trans (by first | assumption | exact xu_s _ _ _ | exact (xu_n (by first | assumption | exact Ne.symm (by assumption) | exact xu_fresh (by assumption) (by assumption) | exact (xu_fresh (by assumption) (by assumption)).symm)).trans (by first | assumption | exact xu_s _ _ _ | exact (xu_n (by first | assumption | exact Ne.symm (by assumption) | exact xu_fresh (by assumption) (by assumption) | exact (xu_fresh (by assumption) (by assumption)).symm)).trans (by first | assumption | exact xu_s _ _ _)))) ?_
  refine x_aload_n (M := mX9_init) (pc := 9) dX9_init_9 rfl ?_
  refine x_iload_n (M := mX9_init) (pc := 10) dX9_init_10 rfl ?_
  first | refine x_putF1' (M := mX9_init) (pc := 11) kcX9 q1152 dX9_init_11 ?_ | refine x_putF1 (M := mX9_init) (pc := 11) kcX9 q1152 dX9_init_11 (by first | assumption | exact xu_s _ _ _ | exact (xu_n (by first | assumption | exact Ne.symm (by assumption) | exact xu_fresh (by assumption) (by assumption) | exact (xu_fresh (by assumption) (by assumption)).symm)).trans (by first | assumption | exact xu_s _ _ _ | exact (xu_n (by first | assumption | exact Ne.symm (by assumption) | exact xu_fresh (by assumption) (by assumption) | exact (xu_fresh (by assumption) (by assumption)).symm)).trans (by first | assumption | exact xu_s _ _ _ | exact (xu_n (by first | assumption | exact Ne.symm (by assumption) | exact xu_fresh (by assumption) (by assumption) | exact (xu_fresh (by assumption) (by assumption)).symm)).trans (by first | assumption | exact xu_s _ _ _)))) ?_
  refine x_aload_n (M := mX9_init) (pc := 14) dX9_init_14 rfl ?_
  refine x_iload_n (M := mX9_init) (pc := 15) dX9_init_15 rfl ?_
  first | refine x_putF2' (M := mX9_init) (pc := 16) kcX9 q1153 dX9_init_16 ?_ | refine x_putF2 (M := mX9_init) (pc := 16) kcX9 q1153 dX9_init_16 (by first | assumption | exact xu_s _ _ _ | exact (xu_n (by first | assumption | exact Ne.symm (by assumption) | exact xu_fresh (by assumption) (by assumption) | exact (xu_fresh (by assumption) (by assumption)).symm)).trans (by first | assumption | exact xu_s _ _ _ | exact (xu_n (by first | assumption | exact Ne.symm (by assumption) | exact xu_fresh (by assumption) (by assumption) | exact (xu_fresh (by assumption) (by assumption)).symm)).trans (by first | assumption | exact xu_s _ _ _ | exact (xu_n (by first | assumption | exact Ne.symm (by assumption) | exact xu_fresh (by assumption) (by assumption) | exact (xu_fresh (by assumption) (by assumption)).symm)).trans (by first | assumption | exact xu_s _ _ _)))) ?_
  refine x_vret (M := mX9_init) (pc := 19) dX9_init_19 rfl (by first | exact Nat.le_of_ble_eq_true rfl | omega) (by first | exact Nat.le_of_ble_eq_true rfl | omega) ?_
  exact ⟨rfl, rfl⟩
theorem c_jtU (h : xH) (a d : Nat) (x : Jt) (ha : h a = some (jtE x)) : Ct g l mX9_upper d 0 0 [.ref a] h (fun o h' => o = .inl (some (.int (nI x.1))) ∧ h' = h) := by
  unfold jtE at ha
  refine Ct.of [some (.ref a)] (by decide +kernel) rfl (Nat.le_of_ble_eq_true rfl) rfl rfl ?_
  refine x_aload_n (M := mX9_upper) (pc := 0) dX9_upper_0 rfl ?_
  refine x_get (M := mX9_upper) (pc := 1) kcX9 0 rfl q1151 dX9_upper_1 (by first | assumption | exact xu_s _ _ _ | exact (xu_n (by first | assumption | exact Ne.symm (by assumption) | exact xu_fresh (by assumption) (by assumption) | exact (xu_fresh (by assumption) (by assumption)).symm)).trans (by first | assumption | exact xu_s _ _ _ | exact (xu_n (by first | assumption | exact Ne.symm (by assumption) | exact xu_fresh (by assumption) (by assumption) | exact (xu_fresh (by assumption) (by assumption)).symm)).trans (by first | assumption | exact xu_s _ _ _ | exact (xu_n (by first | assumption | exact Ne.symm (by assumption) | exact xu_fresh (by assumption) (by assumption) | exact (xu_fresh (by assumption) (by assumption)).symm)).trans (by first | assumption | exact xu_s _ _ _)))) rfl ?_
  refine x_iret (M := mX9_upper) (pc := 4) dX9_upper_4 rfl (by first | exact Nat.le_of_ble_eq_true rfl | omega) (by first | exact Nat.le_of_ble_eq_true rfl | omega) ?_
  exact ⟨rfl, rfl⟩
theorem c_jtL (h : xH) (a d : Nat) (x : Jt) (ha : h a = some (jtE x)) : Ct g l mX9_lower d 0 0 [.ref a] h (fun o h' => o = .inl (some (.int (nI x.2.1))) ∧ h' = h) := by
  unfold jtE at ha
  refine Ct.of [some (.ref a)] (by decide +kernel) rfl (Nat.le_of_ble_eq_true rfl) rfl rfl ?_
  refine x_aload_n (M := mX9_lower) (pc := 0) dX9_lower_0 rfl ?_
  refine x_get (M := mX9_lower) (pc := 1) kcX9 1 rfl q1152 dX9_lower_1 (by first | assumption | exact xu_s _ _ _ | exact (xu_n (by first | assumption | exact Ne.symm (by assumption) | exact xu_fresh (by assumption) (by assumption) | exact (xu_fresh (by assumption) (by assumption)).symm)).trans (by first | assumption | exact xu_s _ _ _ | exact (xu_n (by first | assumption | exact Ne.symm (by assumption) | exact xu_fresh (by assumption) (by assumption) | exact (xu_fresh (by assumption) (by assumption)).symm)).trans (by first | assumption | exact xu_s _ _ _ | exact (xu_n (by first | assumption | exact Ne.symm (by assumption) | exact xu_fresh (by assumption) (by assumption) | exact (xu_fresh (by assumption) (by assumption)).symm)).trans (by first | assumption | exact xu_s _ _ _)))) rfl ?_
  refine x_iret (M := mX9_lower) (pc := 4) dX9_lower_4 rfl (by first | exact Nat.le_of_ble_eq_true rfl | omega) (by first | exact Nat.le_of_ble_eq_true rfl | omega) ?_
  exact ⟨rfl, rfl⟩
theorem c_jtD (h : xH) (a d : Nat) (x : Jt) (ha : h a = some (jtE x)) : Ct g l mX9_edge d 0 0 [.ref a] h (fun o h' => o = .inl (some (.int (nI x.2.2))) ∧ h' = h) := by
  unfold jtE at ha
  refine Ct.of [some (.ref a)] (by decide +kernel) rfl (Nat.le_of_ble_eq_true rfl) rfl rfl ?_
  refine x_aload_n (M := mX9_edge) (pc := 0) dX9_edge_0 rfl ?_
  refine x_get (M := mX9_edge) (pc := 1) kcX9 2 rfl q1153 dX9_edge_1 (by first | assumption | exact xu_s _ _ _ | exact (xu_n (by first | assumption | exact Ne.symm (by assumption) | exact xu_fresh (by assumption) (by assumption) | exact (xu_fresh (by assumption) (by assumption)).symm)).trans (by first | assumption | exact xu_s _ _ _ | exact (xu_n (by first | assumption | exact Ne.symm (by assumption) | exact xu_fresh (by assumption) (by assumption) | exact (xu_fresh (by assumption) (by assumption)).symm)).trans (by first | assumption | exact xu_s _ _ _ | exact (xu_n (by first | assumption | exact Ne.symm (by assumption) | exact xu_fresh (by assumption) (by assumption) | exact (xu_fresh (by assumption) (by assumption)).symm)).trans (by first | assumption | exact xu_s _ _ _)))) rfl ?_
  refine x_iret (M := mX9_edge) (pc := 4) dX9_edge_4 rfl (by first | exact Nat.le_of_ble_eq_true rfl | omega) (by first | exact Nat.le_of_ble_eq_true rfl | omega) ?_
  exact ⟨rfl, rfl⟩
def jD (J : List Jt) (k : Nat) : Jt := J.getD k (0, 0, 0)
theorem jD_app (J : List Jt) (x : Jt) (k : Nat) (hk : k < J.length) : jD (J ++ [x]) k = jD J k := by
  simp [jD, List.getD_eq_getElem?_getD, List.getElem?_append_left hk]
theorem jD_last (J : List Jt) (x : Jt) : jD (J ++ [x]) J.length = x := by simp [jD, List.getD_eq_getElem?_getD]
theorem jD_mem {J : List Jt} {k : Nat} (hk : k < J.length) : jD J k ∈ J := by
  rw [jD, List.getD_eq_getElem?_getD, List.getElem?_eq_getElem hk]; exact List.getElem_mem hk
/-- the list of joints -/
def JO (g : xG) (h : xH) (jl ja cap : Nat) (xs : List Nat) (J : List Jt) : Prop := ALC g h jl ja cap xs ∧ xs.length = J.length ∧ ∀ k, k < J.length → h (xs.getD k 0) = some (jtE (jD J k))
theorem JO.le {jl ja cap : Nat} {xs : List Nat} {J : List Jt} (hl : xle h h') (hJ : JO g h jl ja cap xs J) : JO g h' jl ja cap xs J := by
  obtain ⟨⟨m, f, h1⟩, h2, h3⟩ := hJ
  exact ⟨⟨m, f, h1.le hl⟩, h2, fun k hk => hl _ _ (h3 k hk)⟩
theorem JO.el {jl ja cap : Nat} {xs : List Nat} {J : List Jt} (hJ : JO g h jl ja cap xs J) : ∀ y ∈ xs, xOb g h y := by
  intro y hy
  obtain ⟨k, hk, rfl⟩ := List.getElem_of_mem hy
  have := hJ.2.2 k (by have := hJ.2.1; omega)
  rw [List.getD_eq_getElem?_getD, List.getElem?_eq_getElem hk] at this
  exact ⟨_, xIs.of kcX9 this, Or.inr q3359⟩
theorem c_addJoint (hh : xH) (bk jl ja cap a b e d : Nat) (v0 v1 v3 : Value) (xs : List Nat) (J : List Jt) (hd : 8 ≤ d) (ha : a < 100) (hb : b < 100) (hbk : hh bk = some (.inr (8, [v0, v1, .ref jl, v3]))) (hJ : JO g hh jl ja cap xs J) (hl : J.length < 100) :
    Ct g l mX8_addJoint d (1 + grC J.length cap) (3 + grS J.length cap) [.ref bk, .int (nI a), .int (nI b), .int (nI e)] hh (fun o h' => o = .inl none ∧ ∃ ja' xs', JO g h' jl ja' (grN J.length cap) xs' (J ++ [jMk a b e]) ∧ xle2 jl ja hh h' ∧ (ja' = ja ∨ hh ja' = none)) := by
  have hjl := hJ.1.al.is
  refine Ct.of [some (.ref bk), some (.int (nI a)), some (.int (nI b)), some (.int (nI e))] (by decide +kernel) rfl (Nat.le_of_ble_eq_true rfl) rfl rfl ?_
  refine x_aload_n (M := mX8_addJoint) (pc := 0) dX8_addJoint_0 rfl ?_
  refine x_get (M := mX8_addJoint) (pc := 1) kcX8 2 rfl q1202 dX8_addJoint_1 (by first | assumption | exact xu_s _ _ _ | exact (xu_n (by first | assumption | exact Ne.symm (by assumption) | exact xu_fresh (by assumption) (by assumption) | exact (xu_fresh (by assumption) (by assumption)).symm)).trans (by first | assumption | exact xu_s _ _ _ | exact (xu_n (by first | assumption | exact Ne.symm (by assumption) | exact xu_fresh (by assumption) (by assumption) | exact (xu_fresh (by assumption) (by assumption)).symm)).trans (by first | assumption | exact xu_s _ _ _ | exact (xu_n (by first | assumption | exact Ne.symm (by assumption) | exact xu_fresh (by assumption) (by assumption) | exact (xu_fresh (by assumption) (by assumption)).symm)).trans (by first | assumption | exact xu_s _ _ _)))) rfl ?_
  refine x_new (M := mX8_addJoint) (pc := 4) kcX9 q1143 dX8_addJoint_4 (by first | exact Nat.le_of_ble_eq_true rfl | omega) (by first | exact Nat.le_of_ble_eq_true rfl | omega) (fun q4_ hq4_ hb4_ => ?_)
  (try simp only [xu_noneI] at hq4_)
  repeat (obtain ⟨_, hq4_⟩ : _ ∧ _ := hq4_)
  refine x_dup (M := mX8_addJoint) (pc := 7) dX8_addJoint_7 ?_
  refine x_iload_n (M := mX8_addJoint) (pc := 8) dX8_addJoint_8 rfl ?_
  refine x_iload_n (M := mX8_addJoint) (pc := 9) dX8_addJoint_9 rfl ?_
  refine x_mmin (M := mX8_addJoint) (pc := 10) q1145 dX8_addJoint_10 (by omega) (by omega) (by first | assumption | omega) (by first | exact Nat.le_of_ble_eq_true rfl | omega) (by first | exact Nat.le_of_ble_eq_true rfl | omega) (by first | exact Nat.le_of_ble_eq_true rfl | (simp [xcat_rf, Value.category])) ?_
  refine x_iload_n (M := mX8_addJoint) (pc := 13) dX8_addJoint_13 rfl ?_
  refine x_iload_n (M := mX8_addJoint) (pc := 14) dX8_addJoint_14 rfl ?_
  refine x_mmax (M := mX8_addJoint) (pc := 15) q1146 dX8_addJoint_15 (by omega) (by omega) (by first | assumption | omega) (by first | exact Nat.le_of_ble_eq_true rfl | omega) (by first | exact Nat.le_of_ble_eq_true rfl | omega) (by first | exact Nat.le_of_ble_eq_true rfl | (simp [xcat_rf, Value.category])) ?_
  refine x_iload_n (M := mX8_addJoint) (pc := 18) dX8_addJoint_18 rfl ?_
  refine x_IN3 (M := mX8_addJoint) (pc := 19) (M' := mX9_init) q1147 kIX9_init dX8_addJoint_19 (c_jtInit _ q4_ (min a b) (max a b) e (d - 1) _ _ _ (by omega) (xu_s _ _ _)) (fun v_ h hq_ => ?_)
  obtain ⟨hv_, rfl⟩ := hq_; cases hv_; rw [xu_xu]
  skip
  refine x_cst (M := mX8_addJoint) (pc := 22) (fun _ _ _ hx0 => ?_)
  have hJ2 : JO g (xu hh q4_ (jtE (min a b, max a b, e))) jl ja cap xs J := hJ.le (xle.fr hq4_)
  have hq : (xu hh q4_ (jtE (min a b, max a b, e))) q4_ = some (jtE (jMk a b e)) := xu_s _ _ _
  have hlen : xs.length = J.length := hJ.2.1
  have c22 := j_addC (g := g) (l := l) _ jl ja cap (d - 1) q4_ xs (by omega) hJ2.1 ⟨_, xIs.of kcX9 hq, Or.inr q3359⟩ hJ2.el (by omega)
  rw [hlen] at c22
  refine x_V1 (M := mX8_addJoint) (pc := 22) (M' := mJ2_add) q1161 kVJ2_add dX8_addJoint_22 (c22) (hJ2.1.al.is) (fun v_ h hq_ => ?_)
  obtain ⟨hv_, ja', w1, w2, w3⟩ := hq_; cases hv_
  refine x_pop (M := mX8_addJoint) (pc := 25) dX8_addJoint_25 ?_
  refine x_vret (M := mX8_addJoint) (pc := 26) dX8_addJoint_26 rfl (by first | exact Nat.le_of_ble_eq_true rfl | omega) (by first | exact Nat.le_of_ble_eq_true rfl | omega) ?_
  refine ⟨rfl, ja', xs ++ [q4_], ⟨w1, by simp [hlen], fun k hk => ?_⟩, fun p e' n1 n2 hp => w2 p e' n1 n2 ((xu_n (xu_fresh hq4_ hp)).trans hp), ?_⟩
  · have key : ∀ p x, (xu hh q4_ (jtE (min a b, max a b, e))) p = some (jtE x) → h p = some (jtE x) := fun p x hp => by
      obtain ⟨m, f, z1⟩ := hJ2.1
      refine w2 p _ (fun z => ?_) (fun z => ?_) hp
      · rw [z, z1.1] at hp; cases hp
      · rcases z1.2.1 with z2 | ⟨z2, z3⟩
        · rw [z, z2] at hp; cases hp
        · rw [z, z2, hx0] at hp; cases hp
    simp only [List.length_append, List.length_cons, List.length_nil] at hk
    by_cases z : k = J.length
    · subst z
      rw [jD_last, ← hlen, getD_last]
      exact key _ _ hq
    · rw [jD_app _ _ _ (by omega), getD_app _ _ _ (by omega)]
      exact key _ _ (hJ2.2.2 k (by omega))
  · rcases w3 with rfl | w3
    · exact Or.inl rfl
    · exact Or.inr (xu_none w3).2
theorem xle.nw {hB h1 : xH} {q : Nat} {e : va_E} (hq : hB q = Option.none) (hl : xle hB h1) : xle hB (xu h1 q e) := fun a e' z => (xu_n (fun w => by rw [w, hq] at z; cases z)).trans (hl a e' z)
/-- how many places the joints' array has, how many slots it took -/
def cpL (n : Nat) : Nat := if n = 0 then 0 else if n ≤ 10 then 10 else if n ≤ 15 then 15 else if n ≤ 22 then 22 else 33
def gsL (n : Nat) : Nat := if n = 0 then 0 else if n ≤ 10 then 10 else if n ≤ 15 then 25 else if n ≤ 22 then 47 else 80
theorem cpL_tab : ((List.range 33).all fun n => decide (grN n (cpL n) = cpL (n + 1) ∧ gsL n + grS n (cpL n) = gsL (n + 1) ∧ grC n (cpL n) ≤ 1 ∧ n ≤ cpL n)) = true := by decide +kernel
theorem cpL_ok {n : Nat} (h : n < 33) : grN n (cpL n) = cpL (n + 1) ∧ gsL n + grS n (cpL n) = gsL (n + 1) ∧ grC n (cpL n) ≤ 1 ∧ n ≤ cpL n := of_decide_eq_true (rg cpL_tab h)
/-- in join's second loop -/
def JI (g : xG) (hB h1 : xH) (jl q n : Nat) (T : Nat → Int32) (J : List Jt) (ja : Nat) (xs : List Nat) : Prop := h1 q = some (.inl (xdA g 0, n, .inl T)) ∧ JO g h1 jl ja (cpL J.length) xs J ∧ hB ja = none ∧ xle1 jl hB h1
theorem JI.add {hB h1 h2 : xH} {jl q n ja ja' : Nat} {T : Nat → Int32} {J : List Jt} {x : Jt} {xs xs' : List Nat} (hx1 : h1 (xca g 0 0) = none) (hl : J.length < 33) (hI : JI g hB h1 jl q n T J ja xs) (hJ : JO g h2 jl ja' (grN J.length (cpL J.length)) xs' (J ++ [x])) (hle : xle2 jl ja h1 h2) (hja : ja' = ja ∨ h1 ja' = none) (hBl : hB jl ≠ none) : JI g hB h2 jl q n T (J ++ [x]) ja' xs' := by
  obtain ⟨i1, i2, i3, i4⟩ := hI
  rw [(cpL_ok hl).1] at hJ
  obtain ⟨⟨m, f, z1⟩, z2, z3⟩ := i2
  refine ⟨hle _ _ (fun z => ?_) (fun z => ?_) i1, by rw [List.length_append]; exact hJ, ?_, fun a e n1 ha => hle a e n1 (fun z => ?_) (i4 a e n1 ha)⟩
  · rw [z, z1.1] at i1; simp at i1
  · rcases z1.2.1 with y | ⟨y, -⟩
    · rw [z, y] at i1; simp at i1
    · rw [z, y, hx1] at i1; cases i1
  · rcases hja with rfl | w
    · exact i3
    · cases e : hB ja' with
      | none => rfl
      | some e' =>
        by_cases q2 : ja' = jl
        · rw [q2, z1.1] at w; cases w
        · rw [i4 _ _ q2 e] at w; cases w
  · rw [z, i3] at ha; cases ha
theorem jAt1_len (wi : Nat) (ly : Nat → Lay) (lf : Nat → Nat) (c : Nat) : (jAt1 wi ly lf c).length ≤ 1 := by unfold jAt1; split <;> simp
theorem jAt2_len (hi wi : Nat) (ly : Nat → Lay) (lf : Nat → Nat) (c : Nat) : (jAt2 hi wi ly lf c).length ≤ 1 := by unfold jAt2; split <;> simp
theorem jL_len (hi wi : Nat) (ly : Nat → Lay) (lf : Nat → Nat) : ∀ c, (jL hi wi ly lf c).length ≤ 2 * c
  | 0 => Nat.le_refl _
  | c + 1 => by
    have := jL_len hi wi ly lf c
    have h1 := jAt1_len wi ly lf c
    have h2 := jAt2_len hi wi ly lf c
    rw [jL, List.length_append, List.length_append]
    omega
theorem col_lt {c hi wi : Nat} (hc : c < hi * wi) (h : c % wi + 1 < wi) : c + 1 < hi * wi := by
  have h1 := Nat.div_add_mod c wi
  have h2 : c / wi < hi := by rw [Nat.div_lt_iff_lt_mul (by omega)]; exact hc
  have h3 : wi * (c / wi + 1) ≤ wi * hi := Nat.mul_le_mul_left _ h2
  rw [Nat.mul_succ, Nat.mul_comm wi hi] at h3
  omega
theorem row_lt {c hi wi : Nat} (hw : 0 < wi) (h : c / wi + 1 < hi) : c + wi < hi * wi := by
  have h1 := Nat.div_add_mod c wi
  have h2 := Nat.mod_lt c hw
  have h3 : wi * (c / wi + 1 + 1) ≤ wi * hi := Nat.mul_le_mul_left _ h
  rw [Nat.mul_succ, Nat.mul_succ, Nat.mul_comm wi hi] at h3
  omega
theorem j_jn1 (hB : xH) (bk sh lv jl q d n hi wi mc ms : Nat) (vsb : Value) (P : Nat → Nat) (s : Row) (ly : Nat → Lay) (La : Nat → Nat) (f : Nat → Option Nat) (hhi : hi = zHi s) (hwi : wi = zWi s) (hn16 : n ≤ 16) (hw4 : wi ≤ 4) (hw0 : 0 < wi) (hbk : hB bk = some (.inr (8, [.ref sh, .ref lv, .ref jl, vsb]))) (hsh : hB sh = some (shE P s)) (hlv : hB lv = some (.inl (xdA g 4, n, .inr (.inr (.inr (.inr f)))))) (hf : ∀ k, k < n → f k = some (La k)) (hly : ∀ t, t < n → hB (La t) = some (lyE ((ly t).1 / wi) ((ly t).1 % wi) (ly t).2)) (hper : ∀ t, t < n → (ly t).1 < n) (hq : hB q = none) (Q : xO → xH → Prop) (us uc : Nat)
    (hE : ∀ h1 T, h1 q = some (.inl (xdA g 0, n, .inl T)) → (∀ c, c < n → T c = nI (lfA ly n c)) → xle hB h1 → X g l mX8_join d mc ms Q 57 [some (.ref bk), some (.ref q), some (.int (nI 0)), none] [] h1 uc us) :
    ∀ m k, n - k ≤ m → k ≤ n → ∀ h1 T, h1 q = some (.inl (xdA g 0, n, .inl T)) → (∀ c, c < n → T c = nI (lfA ly k c)) → xle hB h1 → X g l mX8_join d mc ms Q 10 [some (.ref bk), some (.ref q), some (.int (nI k)), none] [] h1 uc us := by
  unfold shE at hsh
  simp only [← hhi, ← hwi] at hsh
  intro m
  induction m with
  | zero =>
    intro k hm hk h1 T hT hv hle
    have : k = n := by omega
    subst this
    have hbk1 := hle _ _ hbk
    have hlv1 := hle _ _ hlv
    refine x_iload_n (M := mX8_join) (pc := 10) dX8_join_10 rfl ?_
    refine x_aload_n (M := mX8_join) (pc := 11) dX8_join_11 rfl ?_
    refine x_get (M := mX8_join) (pc := 12) kcX8 1 rfl q1200 dX8_join_12 (by first | assumption | exact xu_s _ _ _ | exact (xu_n (by first | assumption | exact Ne.symm (by assumption) | exact xu_fresh (by assumption) (by assumption) | exact (xu_fresh (by assumption) (by assumption)).symm)).trans (by first | assumption | exact xu_s _ _ _ | exact (xu_n (by first | assumption | exact Ne.symm (by assumption) | exact xu_fresh (by assumption) (by assumption) | exact (xu_fresh (by assumption) (by assumption)).symm)).trans (by first | assumption | exact xu_s _ _ _ | exact (xu_n (by first | assumption | exact Ne.symm (by assumption) | exact xu_fresh (by assumption) (by assumption) | exact (xu_fresh (by assumption) (by assumption)).symm)).trans (by first | assumption | exact xu_s _ _ _)))) rfl ?_
    refine x_alen (M := mX8_join) (pc := 15) dX8_join_15 (by first | assumption | exact xu_s _ _ _ | exact (xu_n (by first | assumption | exact Ne.symm (by assumption) | exact xu_fresh (by assumption) (by assumption) | exact (xu_fresh (by assumption) (by assumption)).symm)).trans (by first | assumption | exact xu_s _ _ _ | exact (xu_n (by first | assumption | exact Ne.symm (by assumption) | exact xu_fresh (by assumption) (by assumption) | exact (xu_fresh (by assumption) (by assumption)).symm)).trans (by first | assumption | exact xu_s _ _ _ | exact (xu_n (by first | assumption | exact Ne.symm (by assumption) | exact xu_fresh (by assumption) (by assumption) | exact (xu_fresh (by assumption) (by assumption)).symm)).trans (by first | assumption | exact xu_s _ _ _)))) rfl ?_
    first | with_reducible refine x_icmp_geN (M := mX8_join) (pc := 16) 55 dX8_join_16 (by decide) (by omega) (by omega) (fun c => ?_) (fun c => ?_) | refine x_icmp_ge (M := mX8_join) (pc := 16) 55 dX8_join_16 (by decide) (fun c => ?_) (fun c => ?_)
    · refine x_iconst (M := mX8_join) (pc := 55) (v := nI 0) dX8_join_55 (by decide) ?_
      refine x_istore2 (M := mX8_join) (pc := 56) dX8_join_56 ?_
      exact hE h1 T hT hv hle
    · omega
  | succ m ih =>
    intro k hm hk h1 T hT hv hle
    have hbk1 := hle _ _ hbk
    have hlv1 := hle _ _ hlv
    have hsh1 := hle _ _ hsh
    refine x_iload_n (M := mX8_join) (pc := 10) dX8_join_10 rfl ?_
    refine x_aload_n (M := mX8_join) (pc := 11) dX8_join_11 rfl ?_
    refine x_get (M := mX8_join) (pc := 12) kcX8 1 rfl q1200 dX8_join_12 (by first | assumption | exact xu_s _ _ _ | exact (xu_n (by first | assumption | exact Ne.symm (by assumption) | exact xu_fresh (by assumption) (by assumption) | exact (xu_fresh (by assumption) (by assumption)).symm)).trans (by first | assumption | exact xu_s _ _ _ | exact (xu_n (by first | assumption | exact Ne.symm (by assumption) | exact xu_fresh (by assumption) (by assumption) | exact (xu_fresh (by assumption) (by assumption)).symm)).trans (by first | assumption | exact xu_s _ _ _ | exact (xu_n (by first | assumption | exact Ne.symm (by assumption) | exact xu_fresh (by assumption) (by assumption) | exact (xu_fresh (by assumption) (by assumption)).symm)).trans (by first | assumption | exact xu_s _ _ _)))) rfl ?_
    refine x_alen (M := mX8_join) (pc := 15) dX8_join_15 (by first | assumption | exact xu_s _ _ _ | exact (xu_n (by first | assumption | exact Ne.symm (by assumption) | exact xu_fresh (by assumption) (by assumption) | exact (xu_fresh (by assumption) (by assumption)).symm)).trans (by first | assumption | exact xu_s _ _ _ | exact (xu_n (by first | assumption | exact Ne.symm (by assumption) | exact xu_fresh (by assumption) (by assumption) | exact (xu_fresh (by assumption) (by assumption)).symm)).trans (by first | assumption | exact xu_s _ _ _ | exact (xu_n (by first | assumption | exact Ne.symm (by assumption) | exact xu_fresh (by assumption) (by assumption) | exact (xu_fresh (by assumption) (by assumption)).symm)).trans (by first | assumption | exact xu_s _ _ _)))) rfl ?_
    first | with_reducible refine x_icmp_geN (M := mX8_join) (pc := 16) 55 dX8_join_16 (by decide) (by omega) (by omega) (fun c => ?_) (fun c => ?_) | refine x_icmp_ge (M := mX8_join) (pc := 16) 55 dX8_join_16 (by decide) (fun c => ?_) (fun c => ?_)
    · have : k = n := by omega
      subst this
      refine x_iconst (M := mX8_join) (pc := 55) (v := nI 0) dX8_join_55 (by decide) ?_
      refine x_istore2 (M := mX8_join) (pc := 56) dX8_join_56 ?_
      exact hE h1 T hT hv hle
    · have hla := hle _ _ (hly k c)
      have hp := hper k c
      unfold lyE at hla
      have hvk : va_rf (f k) = .ref (La k) := by rw [hf k c]; rfl
      refine x_aload_n (M := mX8_join) (pc := 19) dX8_join_19 rfl ?_
      refine x_aload_n (M := mX8_join) (pc := 20) dX8_join_20 rfl ?_
      refine x_get (M := mX8_join) (pc := 21) kcX8 1 rfl q1200 dX8_join_21 (by first | assumption | exact xu_s _ _ _ | exact (xu_n (by first | assumption | exact Ne.symm (by assumption) | exact xu_fresh (by assumption) (by assumption) | exact (xu_fresh (by assumption) (by assumption)).symm)).trans (by first | assumption | exact xu_s _ _ _ | exact (xu_n (by first | assumption | exact Ne.symm (by assumption) | exact xu_fresh (by assumption) (by assumption) | exact (xu_fresh (by assumption) (by assumption)).symm)).trans (by first | assumption | exact xu_s _ _ _ | exact (xu_n (by first | assumption | exact Ne.symm (by assumption) | exact xu_fresh (by assumption) (by assumption) | exact (xu_fresh (by assumption) (by assumption)).symm)).trans (by first | assumption | exact xu_s _ _ _)))) rfl ?_
      refine x_iload_n (M := mX8_join) (pc := 24) dX8_join_24 rfl ?_
      refine x_aaldN (M := mX8_join) (pc := 25) _ dX8_join_25 (by first | assumption | exact xu_s _ _ _ | exact (xu_n (by first | assumption | exact Ne.symm (by assumption) | exact xu_fresh (by assumption) (by assumption) | exact (xu_fresh (by assumption) (by assumption)).symm)).trans (by first | assumption | exact xu_s _ _ _ | exact (xu_n (by first | assumption | exact Ne.symm (by assumption) | exact xu_fresh (by assumption) (by assumption) | exact (xu_fresh (by assumption) (by assumption)).symm)).trans (by first | assumption | exact xu_s _ _ _ | exact (xu_n (by first | assumption | exact Ne.symm (by assumption) | exact xu_fresh (by assumption) (by assumption) | exact (xu_fresh (by assumption) (by assumption)).symm)).trans (by first | assumption | exact xu_s _ _ _)))) (by first | rfl | assumption) (by first | assumption | omega) (by first | decide | omega) (hvk) ?_
      refine x_getN (M := mX8_join) (pc := 26) kcX6 0 rfl q477 dX8_join_26 (by first | assumption | exact xu_s _ _ _ | exact (xu_n (by first | assumption | exact Ne.symm (by assumption) | exact xu_fresh (by assumption) (by assumption) | exact (xu_fresh (by assumption) (by assumption)).symm)).trans (by first | assumption | exact xu_s _ _ _ | exact (xu_n (by first | assumption | exact Ne.symm (by assumption) | exact xu_fresh (by assumption) (by assumption) | exact (xu_fresh (by assumption) (by assumption)).symm)).trans (by first | assumption | exact xu_s _ _ _ | exact (xu_n (by first | assumption | exact Ne.symm (by assumption) | exact xu_fresh (by assumption) (by assumption) | exact (xu_fresh (by assumption) (by assumption)).symm)).trans (by first | assumption | exact xu_s _ _ _)))) rfl ?_
      refine x_aload_n (M := mX8_join) (pc := 29) dX8_join_29 rfl ?_
      refine x_get (M := mX8_join) (pc := 30) kcX8 0 rfl q1198 dX8_join_30 (by first | assumption | exact xu_s _ _ _ | exact (xu_n (by first | assumption | exact Ne.symm (by assumption) | exact xu_fresh (by assumption) (by assumption) | exact (xu_fresh (by assumption) (by assumption)).symm)).trans (by first | assumption | exact xu_s _ _ _ | exact (xu_n (by first | assumption | exact Ne.symm (by assumption) | exact xu_fresh (by assumption) (by assumption) | exact (xu_fresh (by assumption) (by assumption)).symm)).trans (by first | assumption | exact xu_s _ _ _ | exact (xu_n (by first | assumption | exact Ne.symm (by assumption) | exact xu_fresh (by assumption) (by assumption) | exact (xu_fresh (by assumption) (by assumption)).symm)).trans (by first | assumption | exact xu_s _ _ _)))) rfl ?_
      refine x_getN (M := mX8_join) (pc := 33) kcX2 1 rfl q215 dX8_join_33 (by first | assumption | exact xu_s _ _ _ | exact (xu_n (by first | assumption | exact Ne.symm (by assumption) | exact xu_fresh (by assumption) (by assumption) | exact (xu_fresh (by assumption) (by assumption)).symm)).trans (by first | assumption | exact xu_s _ _ _ | exact (xu_n (by first | assumption | exact Ne.symm (by assumption) | exact xu_fresh (by assumption) (by assumption) | exact (xu_fresh (by assumption) (by assumption)).symm)).trans (by first | assumption | exact xu_s _ _ _ | exact (xu_n (by first | assumption | exact Ne.symm (by assumption) | exact xu_fresh (by assumption) (by assumption) | exact (xu_fresh (by assumption) (by assumption)).symm)).trans (by first | assumption | exact xu_s _ _ _)))) rfl ?_
      first | with_reducible refine x_imulN (M := mX8_join) (pc := 36) dX8_join_36 ?_ | refine x_imul (M := mX8_join) (pc := 36) dX8_join_36 ?_
      refine x_aload_n (M := mX8_join) (pc := 37) dX8_join_37 rfl ?_
      refine x_get (M := mX8_join) (pc := 38) kcX8 1 rfl q1200 dX8_join_38 (by first | assumption | exact xu_s _ _ _ | exact (xu_n (by first | assumption | exact Ne.symm (by assumption) | exact xu_fresh (by assumption) (by assumption) | exact (xu_fresh (by assumption) (by assumption)).symm)).trans (by first | assumption | exact xu_s _ _ _ | exact (xu_n (by first | assumption | exact Ne.symm (by assumption) | exact xu_fresh (by assumption) (by assumption) | exact (xu_fresh (by assumption) (by assumption)).symm)).trans (by first | assumption | exact xu_s _ _ _ | exact (xu_n (by first | assumption | exact Ne.symm (by assumption) | exact xu_fresh (by assumption) (by assumption) | exact (xu_fresh (by assumption) (by assumption)).symm)).trans (by first | assumption | exact xu_s _ _ _)))) rfl ?_
      refine x_iload_n (M := mX8_join) (pc := 41) dX8_join_41 rfl ?_
      refine x_aaldN (M := mX8_join) (pc := 42) _ dX8_join_42 (by first | assumption | exact xu_s _ _ _ | exact (xu_n (by first | assumption | exact Ne.symm (by assumption) | exact xu_fresh (by assumption) (by assumption) | exact (xu_fresh (by assumption) (by assumption)).symm)).trans (by first | assumption | exact xu_s _ _ _ | exact (xu_n (by first | assumption | exact Ne.symm (by assumption) | exact xu_fresh (by assumption) (by assumption) | exact (xu_fresh (by assumption) (by assumption)).symm)).trans (by first | assumption | exact xu_s _ _ _ | exact (xu_n (by first | assumption | exact Ne.symm (by assumption) | exact xu_fresh (by assumption) (by assumption) | exact (xu_fresh (by assumption) (by assumption)).symm)).trans (by first | assumption | exact xu_s _ _ _)))) (by first | rfl | assumption) (by first | assumption | omega) (by first | decide | omega) (hvk) ?_
      refine x_getN (M := mX8_join) (pc := 43) kcX6 1 rfl q479 dX8_join_43 (by first | assumption | exact xu_s _ _ _ | exact (xu_n (by first | assumption | exact Ne.symm (by assumption) | exact xu_fresh (by assumption) (by assumption) | exact (xu_fresh (by assumption) (by assumption)).symm)).trans (by first | assumption | exact xu_s _ _ _ | exact (xu_n (by first | assumption | exact Ne.symm (by assumption) | exact xu_fresh (by assumption) (by assumption) | exact (xu_fresh (by assumption) (by assumption)).symm)).trans (by first | assumption | exact xu_s _ _ _ | exact (xu_n (by first | assumption | exact Ne.symm (by assumption) | exact xu_fresh (by assumption) (by assumption) | exact (xu_fresh (by assumption) (by assumption)).symm)).trans (by first | assumption | exact xu_s _ _ _)))) rfl ?_
      first | with_reducible refine x_iaddN (M := mX8_join) (pc := 46) dX8_join_46 ?_ | refine x_iadd (M := mX8_join) (pc := 46) dX8_join_46 ?_
      refine x_iload_n (M := mX8_join) (pc := 47) dX8_join_47 rfl ?_
      have e : (ly k).1 / wi * wi + (ly k).1 % wi = (ly k).1 := by rw [Nat.mul_comm]; exact Nat.div_add_mod _ _
      rw [e]
      refine x_iastN (M := mX8_join) (pc := 48) _ dX8_join_48 (by first | assumption | exact xu_s _ _ _ | exact (xu_n (by first | assumption | exact Ne.symm (by assumption) | exact xu_fresh (by assumption) (by assumption) | exact (xu_fresh (by assumption) (by assumption)).symm)).trans (by first | assumption | exact xu_s _ _ _ | exact (xu_n (by first | assumption | exact Ne.symm (by assumption) | exact xu_fresh (by assumption) (by assumption) | exact (xu_fresh (by assumption) (by assumption)).symm)).trans (by first | assumption | exact xu_s _ _ _ | exact (xu_n (by first | assumption | exact Ne.symm (by assumption) | exact xu_fresh (by assumption) (by assumption) | exact (xu_fresh (by assumption) (by assumption)).symm)).trans (by first | assumption | exact xu_s _ _ _)))) (by first | rfl | assumption) (by first | assumption | omega) (by first | decide | omega) ?_
      first | refine x_iinc2N (M := mX8_join) (pc := 49) (c := 1) dX8_join_49 oI1 ?_ | refine x_iinc2 (M := mX8_join) (pc := 49) (c := 1) dX8_join_49 (by decide) ?_
      refine x_goto (M := mX8_join) (pc := 52) 10 dX8_join_52 (by decide) ?_
      refine ih (k + 1) (by omega) (by omega) _ _ (xu_s _ _ _) (fun x hx => ?_) (xle.nw hq hle)
      unfold upd lfA
      split
      · rfl
      · exact hv x hx
theorem j_jn2 (hB : xH) (bk sh lv jl q d n hi wi : Nat) (hd : 9 ≤ d) (vsb : Value) (P : Nat → Nat) (s : Row) (ly : Nat → Lay) (La : Nat → Nat) (f : Nat → Option Nat) (hhi : hi = zHi s) (hwi : wi = zWi s) (hn : n = hi * wi) (hn16 : n ≤ 16) (hh4 : hi ≤ 4) (hw4 : wi ≤ 4) (hw0 : 0 < wi) (hbk : hB bk = some (.inr (8, [.ref sh, .ref lv, .ref jl, vsb]))) (hsh : hB sh = some (shE P s)) (hlv : hB lv = some (.inl (xdA g 4, n, .inr (.inr (.inr (.inr f)))))) (hf : ∀ k, k < n → f k = some (La k)) (hly : ∀ t, t < n → hB (La t) = some (lyE ((ly t).1 / wi) ((ly t).1 % wi) (ly t).2)) (hper : ∀ t, t < n → lfA ly n t < n ∧ (ly (lfA ly n t)).1 = t) (hjl : ∃ fs, hB jl = some (.inr (28, fs))) (T : Nat → Int32) (hT : ∀ c, c < n → T c = nI (lfA ly n c)) (Q : xO → xH → Prop)
    (hE : ∀ h1 ja xs, JO g h1 jl ja (cpL (jL hi wi ly (lfA ly n) n).length) xs (jL hi wi ly (lfA ly n) n) → xle1 jl hB h1 → Q (.inl none) h1) :
    ∀ m c, n - c ≤ m → c ≤ n → ∀ h1 ja xs l3, JI g hB h1 jl q n T (jL hi wi ly (lfA ly n) c) ja xs → X g l mX8_join d 65 (n + 96 + 80) Q 57 [some (.ref bk), some (.ref q), some (.int (nI c)), l3] [] h1 (1 + 2 * (jL hi wi ly (lfA ly n) c).length) (n + 3 * (jL hi wi ly (lfA ly n) c).length + gsL (jL hi wi ly (lfA ly n) c).length) := by
  unfold shE at hsh
  simp only [← hhi, ← hwi] at hsh
  obtain ⟨fsj, hjl⟩ := hjl
  have n1 : bk ≠ jl := fun z => by rw [z, hjl] at hbk; cases hbk
  have n2 : sh ≠ jl := fun z => by rw [z, hjl] at hsh; cases hsh
  have n3 : lv ≠ jl := fun z => by rw [z, hjl] at hlv; cases hlv
  have n4 : ∀ t, t < n → La t ≠ jl := fun t ht z => by have := hly t ht; rw [z, hjl] at this; cases this
  have gs80 : ∀ k, gsL k ≤ 80 := fun k => by unfold gsL; (repeat' split) <;> omega
  intro m
  induction m with
  | zero =>
    intro c hm hc h1 ja xs l3 hI
    have : c = n := by omega
    subst this
    have hbk1 := hI.2.2.2 _ _ n1 hbk
    have hlv1 := hI.2.2.2 _ _ n3 hlv
    have hlen := jL_len hi wi ly (lfA ly c) c
    have hg := gs80 (jL hi wi ly (lfA ly c) c).length
    refine x_iload_n (M := mX8_join) (pc := 57) dX8_join_57 rfl ?_
    refine x_aload_n (M := mX8_join) (pc := 58) dX8_join_58 rfl ?_
    refine x_get (M := mX8_join) (pc := 59) kcX8 1 rfl q1200 dX8_join_59 (by first | assumption | exact xu_s _ _ _ | exact (xu_n (by first | assumption | exact Ne.symm (by assumption) | exact xu_fresh (by assumption) (by assumption) | exact (xu_fresh (by assumption) (by assumption)).symm)).trans (by first | assumption | exact xu_s _ _ _ | exact (xu_n (by first | assumption | exact Ne.symm (by assumption) | exact xu_fresh (by assumption) (by assumption) | exact (xu_fresh (by assumption) (by assumption)).symm)).trans (by first | assumption | exact xu_s _ _ _ | exact (xu_n (by first | assumption | exact Ne.symm (by assumption) | exact xu_fresh (by assumption) (by assumption) | exact (xu_fresh (by assumption) (by assumption)).symm)).trans (by first | assumption | exact xu_s _ _ _)))) rfl ?_
    refine x_alen (M := mX8_join) (pc := 62) dX8_join_62 (by first | assumption | exact xu_s _ _ _ | exact (xu_n (by first | assumption | exact Ne.symm (by assumption) | exact xu_fresh (by assumption) (by assumption) | exact (xu_fresh (by assumption) (by assumption)).symm)).trans (by first | assumption | exact xu_s _ _ _ | exact (xu_n (by first | assumption | exact Ne.symm (by assumption) | exact xu_fresh (by assumption) (by assumption) | exact (xu_fresh (by assumption) (by assumption)).symm)).trans (by first | assumption | exact xu_s _ _ _ | exact (xu_n (by first | assumption | exact Ne.symm (by assumption) | exact xu_fresh (by assumption) (by assumption) | exact (xu_fresh (by assumption) (by assumption)).symm)).trans (by first | assumption | exact xu_s _ _ _)))) rfl ?_
    first | with_reducible refine x_icmp_geN (M := mX8_join) (pc := 63) 167 dX8_join_63 (by decide) (by omega) (by omega) (fun z => ?_) (fun z => ?_) | refine x_icmp_ge (M := mX8_join) (pc := 63) 167 dX8_join_63 (by decide) (fun z => ?_) (fun z => ?_)
    · refine x_vret (M := mX8_join) (pc := 167) dX8_join_167 rfl (by first | exact Nat.le_of_ble_eq_true rfl | omega) (by first | exact Nat.le_of_ble_eq_true rfl | omega) ?_
      exact hE h1 ja xs hI.2.1 hI.2.2.2
    · omega
  | succ m ih =>
    intro c hm hc h1 ja xs l3 hI
    have hbk1 := hI.2.2.2 _ _ n1 hbk
    have hlv1 := hI.2.2.2 _ _ n3 hlv
    have hlen := jL_len hi wi ly (lfA ly n) c
    have hg := gs80 (jL hi wi ly (lfA ly n) c).length
    refine x_iload_n (M := mX8_join) (pc := 57) dX8_join_57 rfl ?_
    refine x_aload_n (M := mX8_join) (pc := 58) dX8_join_58 rfl ?_
    refine x_get (M := mX8_join) (pc := 59) kcX8 1 rfl q1200 dX8_join_59 (by first | assumption | exact xu_s _ _ _ | exact (xu_n (by first | assumption | exact Ne.symm (by assumption) | exact xu_fresh (by assumption) (by assumption) | exact (xu_fresh (by assumption) (by assumption)).symm)).trans (by first | assumption | exact xu_s _ _ _ | exact (xu_n (by first | assumption | exact Ne.symm (by assumption) | exact xu_fresh (by assumption) (by assumption) | exact (xu_fresh (by assumption) (by assumption)).symm)).trans (by first | assumption | exact xu_s _ _ _ | exact (xu_n (by first | assumption | exact Ne.symm (by assumption) | exact xu_fresh (by assumption) (by assumption) | exact (xu_fresh (by assumption) (by assumption)).symm)).trans (by first | assumption | exact xu_s _ _ _)))) rfl ?_
    refine x_alen (M := mX8_join) (pc := 62) dX8_join_62 (by first | assumption | exact xu_s _ _ _ | exact (xu_n (by first | assumption | exact Ne.symm (by assumption) | exact xu_fresh (by assumption) (by assumption) | exact (xu_fresh (by assumption) (by assumption)).symm)).trans (by first | assumption | exact xu_s _ _ _ | exact (xu_n (by first | assumption | exact Ne.symm (by assumption) | exact xu_fresh (by assumption) (by assumption) | exact (xu_fresh (by assumption) (by assumption)).symm)).trans (by first | assumption | exact xu_s _ _ _ | exact (xu_n (by first | assumption | exact Ne.symm (by assumption) | exact xu_fresh (by assumption) (by assumption) | exact (xu_fresh (by assumption) (by assumption)).symm)).trans (by first | assumption | exact xu_s _ _ _)))) rfl ?_
    first | with_reducible refine x_icmp_geN (M := mX8_join) (pc := 63) 167 dX8_join_63 (by decide) (by omega) (by omega) (fun z => ?_) (fun z => ?_) | refine x_icmp_ge (M := mX8_join) (pc := 63) 167 dX8_join_63 (by decide) (fun z => ?_) (fun z => ?_)
    · have : c = n := by omega
      subst this
      refine x_vret (M := mX8_join) (pc := 167) dX8_join_167 rfl (by first | exact Nat.le_of_ble_eq_true rfl | omega) (by first | exact Nat.le_of_ble_eq_true rfl | omega) ?_
      exact hE h1 ja xs hI.2.1 hI.2.2.2
    · obtain ⟨p1, p2⟩ := hper c z
      have hsh1 := hI.2.2.2 _ _ n2 hsh
      have hla := hI.2.2.2 _ _ (n4 _ p1) (hly _ p1)
      unfold lyE at hla
      rw [p2] at hla
      have hq1 := hI.1
      have hvk : va_rf (f (lfA ly n c)) = .ref (La (lfA ly n c)) := by rw [hf _ p1]; rfl
      refine x_aload_n (M := mX8_join) (pc := 66) dX8_join_66 rfl ?_
      refine x_get (M := mX8_join) (pc := 67) kcX8 1 rfl q1200 dX8_join_67 (by first | assumption | exact xu_s _ _ _ | exact (xu_n (by first | assumption | exact Ne.symm (by assumption) | exact xu_fresh (by assumption) (by assumption) | exact (xu_fresh (by assumption) (by assumption)).symm)).trans (by first | assumption | exact xu_s _ _ _ | exact (xu_n (by first | assumption | exact Ne.symm (by assumption) | exact xu_fresh (by assumption) (by assumption) | exact (xu_fresh (by assumption) (by assumption)).symm)).trans (by first | assumption | exact xu_s _ _ _ | exact (xu_n (by first | assumption | exact Ne.symm (by assumption) | exact xu_fresh (by assumption) (by assumption) | exact (xu_fresh (by assumption) (by assumption)).symm)).trans (by first | assumption | exact xu_s _ _ _)))) rfl ?_
      refine x_aload_n (M := mX8_join) (pc := 70) dX8_join_70 rfl ?_
      refine x_iload_n (M := mX8_join) (pc := 71) dX8_join_71 rfl ?_
      refine x_ialdN (M := mX8_join) (pc := 72) _ dX8_join_72 (by first | assumption | exact xu_s _ _ _ | exact (xu_n (by first | assumption | exact Ne.symm (by assumption) | exact xu_fresh (by assumption) (by assumption) | exact (xu_fresh (by assumption) (by assumption)).symm)).trans (by first | assumption | exact xu_s _ _ _ | exact (xu_n (by first | assumption | exact Ne.symm (by assumption) | exact xu_fresh (by assumption) (by assumption) | exact (xu_fresh (by assumption) (by assumption)).symm)).trans (by first | assumption | exact xu_s _ _ _ | exact (xu_n (by first | assumption | exact Ne.symm (by assumption) | exact xu_fresh (by assumption) (by assumption) | exact (xu_fresh (by assumption) (by assumption)).symm)).trans (by first | assumption | exact xu_s _ _ _)))) (by first | rfl | assumption) (by first | assumption | omega) (by first | decide | omega) ?_
      refine x_val (M := mX8_join) (pc := 73) (hT c z) ?_
      refine x_aaldN (M := mX8_join) (pc := 73) _ dX8_join_73 (by first | assumption | exact xu_s _ _ _ | exact (xu_n (by first | assumption | exact Ne.symm (by assumption) | exact xu_fresh (by assumption) (by assumption) | exact (xu_fresh (by assumption) (by assumption)).symm)).trans (by first | assumption | exact xu_s _ _ _ | exact (xu_n (by first | assumption | exact Ne.symm (by assumption) | exact xu_fresh (by assumption) (by assumption) | exact (xu_fresh (by assumption) (by assumption)).symm)).trans (by first | assumption | exact xu_s _ _ _ | exact (xu_n (by first | assumption | exact Ne.symm (by assumption) | exact xu_fresh (by assumption) (by assumption) | exact (xu_fresh (by assumption) (by assumption)).symm)).trans (by first | assumption | exact xu_s _ _ _)))) (by first | rfl | assumption) (by first | assumption | omega) (by first | decide | omega) (hvk) ?_
      refine x_astore3 (M := mX8_join) (pc := 74) dX8_join_74 ?_
      refine x_aload_n (M := mX8_join) (pc := 75) dX8_join_75 rfl ?_
      refine x_getN (M := mX8_join) (pc := 76) kcX6 1 rfl q479 dX8_join_76 (by first | assumption | exact xu_s _ _ _ | exact (xu_n (by first | assumption | exact Ne.symm (by assumption) | exact xu_fresh (by assumption) (by assumption) | exact (xu_fresh (by assumption) (by assumption)).symm)).trans (by first | assumption | exact xu_s _ _ _ | exact (xu_n (by first | assumption | exact Ne.symm (by assumption) | exact xu_fresh (by assumption) (by assumption) | exact (xu_fresh (by assumption) (by assumption)).symm)).trans (by first | assumption | exact xu_s _ _ _ | exact (xu_n (by first | assumption | exact Ne.symm (by assumption) | exact xu_fresh (by assumption) (by assumption) | exact (xu_fresh (by assumption) (by assumption)).symm)).trans (by first | assumption | exact xu_s _ _ _)))) rfl ?_
      refine x_iconst (M := mX8_join) (pc := 79) (v := nI 1) dX8_join_79 (by decide) ?_
      first | with_reducible refine x_iaddN (M := mX8_join) (pc := 80) dX8_join_80 ?_ | refine x_iadd (M := mX8_join) (pc := 80) dX8_join_80 ?_
      refine x_aload_n (M := mX8_join) (pc := 81) dX8_join_81 rfl ?_
      refine x_get (M := mX8_join) (pc := 82) kcX8 0 rfl q1198 dX8_join_82 (by first | assumption | exact xu_s _ _ _ | exact (xu_n (by first | assumption | exact Ne.symm (by assumption) | exact xu_fresh (by assumption) (by assumption) | exact (xu_fresh (by assumption) (by assumption)).symm)).trans (by first | assumption | exact xu_s _ _ _ | exact (xu_n (by first | assumption | exact Ne.symm (by assumption) | exact xu_fresh (by assumption) (by assumption) | exact (xu_fresh (by assumption) (by assumption)).symm)).trans (by first | assumption | exact xu_s _ _ _ | exact (xu_n (by first | assumption | exact Ne.symm (by assumption) | exact xu_fresh (by assumption) (by assumption) | exact (xu_fresh (by assumption) (by assumption)).symm)).trans (by first | assumption | exact xu_s _ _ _)))) rfl ?_
      refine x_getN (M := mX8_join) (pc := 85) kcX2 1 rfl q215 dX8_join_85 (by first | assumption | exact xu_s _ _ _ | exact (xu_n (by first | assumption | exact Ne.symm (by assumption) | exact xu_fresh (by assumption) (by assumption) | exact (xu_fresh (by assumption) (by assumption)).symm)).trans (by first | assumption | exact xu_s _ _ _ | exact (xu_n (by first | assumption | exact Ne.symm (by assumption) | exact xu_fresh (by assumption) (by assumption) | exact (xu_fresh (by assumption) (by assumption)).symm)).trans (by first | assumption | exact xu_s _ _ _ | exact (xu_n (by first | assumption | exact Ne.symm (by assumption) | exact xu_fresh (by assumption) (by assumption) | exact (xu_fresh (by assumption) (by assumption)).symm)).trans (by first | assumption | exact xu_s _ _ _)))) rfl ?_
      -- behind the first joint
      have second : ∀ h1 ja xs J, J = jL hi wi ly (lfA ly n) c ++ jAt1 wi ly (lfA ly n) c → JI g hB h1 jl q n T J ja xs → X g l mX8_join d 65 (n + 96 + 80) Q 115 [some (.ref bk), some (.ref q), some (.int (nI c)), some (.ref (La (lfA ly n c)))] [] h1 (1 + 2 * J.length) (n + 3 * J.length + gsL J.length) := by
        intro h1 ja xs J hJ hI
        have hbk1 := hI.2.2.2 _ _ n1 hbk
        have hsh1 := hI.2.2.2 _ _ n2 hsh
        have hla := hI.2.2.2 _ _ (n4 _ p1) (hly _ p1)
        unfold lyE at hla
        rw [p2] at hla
        have hq1 := hI.1
        have hlJ : J.length ≤ 2 * c + 1 := by have := jAt1_len wi ly (lfA ly n) c; rw [hJ, List.length_append]; omega
        have hgJ := gs80 J.length
        have hcd : c / wi ≤ c := Nat.div_le_self _ _
        refine x_aload_n (M := mX8_join) (pc := 115) dX8_join_115 rfl ?_
        refine x_getN (M := mX8_join) (pc := 116) kcX6 0 rfl q477 dX8_join_116 (by first | assumption | exact xu_s _ _ _ | exact (xu_n (by first | assumption | exact Ne.symm (by assumption) | exact xu_fresh (by assumption) (by assumption) | exact (xu_fresh (by assumption) (by assumption)).symm)).trans (by first | assumption | exact xu_s _ _ _ | exact (xu_n (by first | assumption | exact Ne.symm (by assumption) | exact xu_fresh (by assumption) (by assumption) | exact (xu_fresh (by assumption) (by assumption)).symm)).trans (by first | assumption | exact xu_s _ _ _ | exact (xu_n (by first | assumption | exact Ne.symm (by assumption) | exact xu_fresh (by assumption) (by assumption) | exact (xu_fresh (by assumption) (by assumption)).symm)).trans (by first | assumption | exact xu_s _ _ _)))) rfl ?_
        refine x_iconst (M := mX8_join) (pc := 119) (v := nI 1) dX8_join_119 (by decide) ?_
        first | with_reducible refine x_iaddN (M := mX8_join) (pc := 120) dX8_join_120 ?_ | refine x_iadd (M := mX8_join) (pc := 120) dX8_join_120 ?_
        refine x_aload_n (M := mX8_join) (pc := 121) dX8_join_121 rfl ?_
        refine x_get (M := mX8_join) (pc := 122) kcX8 0 rfl q1198 dX8_join_122 (by first | assumption | exact xu_s _ _ _ | exact (xu_n (by first | assumption | exact Ne.symm (by assumption) | exact xu_fresh (by assumption) (by assumption) | exact (xu_fresh (by assumption) (by assumption)).symm)).trans (by first | assumption | exact xu_s _ _ _ | exact (xu_n (by first | assumption | exact Ne.symm (by assumption) | exact xu_fresh (by assumption) (by assumption) | exact (xu_fresh (by assumption) (by assumption)).symm)).trans (by first | assumption | exact xu_s _ _ _ | exact (xu_n (by first | assumption | exact Ne.symm (by assumption) | exact xu_fresh (by assumption) (by assumption) | exact (xu_fresh (by assumption) (by assumption)).symm)).trans (by first | assumption | exact xu_s _ _ _)))) rfl ?_
        refine x_getN (M := mX8_join) (pc := 125) kcX2 0 rfl q211 dX8_join_125 (by first | assumption | exact xu_s _ _ _ | exact (xu_n (by first | assumption | exact Ne.symm (by assumption) | exact xu_fresh (by assumption) (by assumption) | exact (xu_fresh (by assumption) (by assumption)).symm)).trans (by first | assumption | exact xu_s _ _ _ | exact (xu_n (by first | assumption | exact Ne.symm (by assumption) | exact xu_fresh (by assumption) (by assumption) | exact (xu_fresh (by assumption) (by assumption)).symm)).trans (by first | assumption | exact xu_s _ _ _ | exact (xu_n (by first | assumption | exact Ne.symm (by assumption) | exact xu_fresh (by assumption) (by assumption) | exact (xu_fresh (by assumption) (by assumption)).symm)).trans (by first | assumption | exact xu_s _ _ _)))) rfl ?_
        first | with_reducible refine x_icmp_geN (M := mX8_join) (pc := 128) 161 dX8_join_128 (by decide) (by omega) (by omega) (fun y => ?_) (fun y => ?_) | refine x_icmp_ge (M := mX8_join) (pc := 128) 161 dX8_join_128 (by decide) (fun y => ?_) (fun y => ?_)
        · first | refine x_iinc2N (M := mX8_join) (pc := 161) (c := 1) dX8_join_161 oI1 ?_ | refine x_iinc2 (M := mX8_join) (pc := 161) (c := 1) dX8_join_161 (by decide) ?_
          refine x_goto (M := mX8_join) (pc := 164) 57 dX8_join_164 (by decide) ?_
          have e : jL hi wi ly (lfA ly n) (c + 1) = J := by rw [jL, ← hJ, jAt2, p2, if_neg (by omega), List.append_nil]
          rw [← e] at hI ⊢
          exact ih (c + 1) (by omega) (by omega) h1 ja xs _ hI
        · have hcw := row_lt hw0 y
          rw [← hn] at hcw
          have hj2 := (hper _ hcw).1
          have hcp := cpL_ok (n := J.length) (by omega)
          have hg2 := gs80 (J.length + 1)
          refine x_aload_n (M := mX8_join) (pc := 131) dX8_join_131 rfl ?_
          refine x_aload_n (M := mX8_join) (pc := 132) dX8_join_132 rfl ?_
          refine x_iload_n (M := mX8_join) (pc := 133) dX8_join_133 rfl ?_
          refine x_ialdN (M := mX8_join) (pc := 134) _ dX8_join_134 (by first | assumption | exact xu_s _ _ _ | exact (xu_n (by first | assumption | exact Ne.symm (by assumption) | exact xu_fresh (by assumption) (by assumption) | exact (xu_fresh (by assumption) (by assumption)).symm)).trans (by first | assumption | exact xu_s _ _ _ | exact (xu_n (by first | assumption | exact Ne.symm (by assumption) | exact xu_fresh (by assumption) (by assumption) | exact (xu_fresh (by assumption) (by assumption)).symm)).trans (by first | assumption | exact xu_s _ _ _ | exact (xu_n (by first | assumption | exact Ne.symm (by assumption) | exact xu_fresh (by assumption) (by assumption) | exact (xu_fresh (by assumption) (by assumption)).symm)).trans (by first | assumption | exact xu_s _ _ _)))) (by first | rfl | assumption) (by first | assumption | omega) (by first | decide | omega) ?_
          refine x_val (M := mX8_join) (pc := 135) (hT c z) ?_
          refine x_aload_n (M := mX8_join) (pc := 135) dX8_join_135 rfl ?_
          refine x_iload_n (M := mX8_join) (pc := 136) dX8_join_136 rfl ?_
          refine x_aload_n (M := mX8_join) (pc := 137) dX8_join_137 rfl ?_
          refine x_get (M := mX8_join) (pc := 138) kcX8 0 rfl q1198 dX8_join_138 (by first | assumption | exact xu_s _ _ _ | exact (xu_n (by first | assumption | exact Ne.symm (by assumption) | exact xu_fresh (by assumption) (by assumption) | exact (xu_fresh (by assumption) (by assumption)).symm)).trans (by first | assumption | exact xu_s _ _ _ | exact (xu_n (by first | assumption | exact Ne.symm (by assumption) | exact xu_fresh (by assumption) (by assumption) | exact (xu_fresh (by assumption) (by assumption)).symm)).trans (by first | assumption | exact xu_s _ _ _ | exact (xu_n (by first | assumption | exact Ne.symm (by assumption) | exact xu_fresh (by assumption) (by assumption) | exact (xu_fresh (by assumption) (by assumption)).symm)).trans (by first | assumption | exact xu_s _ _ _)))) rfl ?_
          refine x_getN (M := mX8_join) (pc := 141) kcX2 1 rfl q215 dX8_join_141 (by first | assumption | exact xu_s _ _ _ | exact (xu_n (by first | assumption | exact Ne.symm (by assumption) | exact xu_fresh (by assumption) (by assumption) | exact (xu_fresh (by assumption) (by assumption)).symm)).trans (by first | assumption | exact xu_s _ _ _ | exact (xu_n (by first | assumption | exact Ne.symm (by assumption) | exact xu_fresh (by assumption) (by assumption) | exact (xu_fresh (by assumption) (by assumption)).symm)).trans (by first | assumption | exact xu_s _ _ _ | exact (xu_n (by first | assumption | exact Ne.symm (by assumption) | exact xu_fresh (by assumption) (by assumption) | exact (xu_fresh (by assumption) (by assumption)).symm)).trans (by first | assumption | exact xu_s _ _ _)))) rfl ?_
          first | with_reducible refine x_iaddN (M := mX8_join) (pc := 144) dX8_join_144 ?_ | refine x_iadd (M := mX8_join) (pc := 144) dX8_join_144 ?_
          refine x_ialdN (M := mX8_join) (pc := 145) _ dX8_join_145 (by first | assumption | exact xu_s _ _ _ | exact (xu_n (by first | assumption | exact Ne.symm (by assumption) | exact xu_fresh (by assumption) (by assumption) | exact (xu_fresh (by assumption) (by assumption)).symm)).trans (by first | assumption | exact xu_s _ _ _ | exact (xu_n (by first | assumption | exact Ne.symm (by assumption) | exact xu_fresh (by assumption) (by assumption) | exact (xu_fresh (by assumption) (by assumption)).symm)).trans (by first | assumption | exact xu_s _ _ _ | exact (xu_n (by first | assumption | exact Ne.symm (by assumption) | exact xu_fresh (by assumption) (by assumption) | exact (xu_fresh (by assumption) (by assumption)).symm)).trans (by first | assumption | exact xu_s _ _ _)))) (by first | rfl | assumption) (by first | assumption | omega) (by first | decide | omega) ?_
          refine x_val (M := mX8_join) (pc := 146) (hT _ hcw) ?_
          refine x_joinV 158 (nI (if (ly (lfA ly n c)).2.2 then 2 else 3)) (fun J => ?_) ?_
          · refine x_aload_n (M := mX8_join) (pc := 146) dX8_join_146 rfl ?_
            refine x_getN (M := mX8_join) (pc := 147) kcX6 3 rfl q483 dX8_join_147 (by first | assumption | exact xu_s _ _ _ | exact (xu_n (by first | assumption | exact Ne.symm (by assumption) | exact xu_fresh (by assumption) (by assumption) | exact (xu_fresh (by assumption) (by assumption)).symm)).trans (by first | assumption | exact xu_s _ _ _ | exact (xu_n (by first | assumption | exact Ne.symm (by assumption) | exact xu_fresh (by assumption) (by assumption) | exact (xu_fresh (by assumption) (by assumption)).symm)).trans (by first | assumption | exact xu_s _ _ _ | exact (xu_n (by first | assumption | exact Ne.symm (by assumption) | exact xu_fresh (by assumption) (by assumption) | exact (xu_fresh (by assumption) (by assumption)).symm)).trans (by first | assumption | exact xu_s _ _ _)))) rfl ?_
            first | with_reducible refine x_ifB_eq (M := mX8_join) (pc := 150) 157 dX8_join_150 (by decide) (fun c150 => ?_) (fun c150 => ?_) | with_reducible refine x_if_eqN (M := mX8_join) (pc := 150) 157 dX8_join_150 (by decide) (by omega) (fun c150 => ?_) (fun c150 => ?_) | refine x_if_eq (M := mX8_join) (pc := 150) 157 dX8_join_150 (by decide) (fun c150 => ?_) (fun c150 => ?_)
            · refine x_iconst (M := mX8_join) (pc := 157) (v := nI 3) dX8_join_157 (by decide) ?_
              exact J _ (by rw [c150]; rfl)
            · refine x_iconst (M := mX8_join) (pc := 153) (v := nI 2) dX8_join_153 (by decide) ?_
              refine x_goto (M := mX8_join) (pc := 154) 158 dX8_join_154 (by decide) ?_
              exact J _ (by rw [c150]; rfl)
          skip
          refine x_cst (M := mX8_join) (pc := 158) (fun _ _ _ hx1 => ?_)
          refine x_V3 (M := mX8_join) (pc := 158) (M' := mX8_addJoint) q1139 kVX8_addJoint dX8_join_158 (c_addJoint h1 bk jl ja (cpL J.length) (lfA ly n c) (lfA ly n (c + wi)) (if (ly (lfA ly n c)).2.2 then 2 else 3) (d - 1) _ _ _ xs J (by omega) (by omega) (by omega) hbk1 hI.2.1 (by omega)) (xIs.of kcX8 hbk1) (fun v_ h2 hq_ => ?_)
          obtain ⟨hv_, ja', xs', w1, w2, w3⟩ := hq_; cases hv_
          have hI2 := hI.add hx1 (by omega) w1 w2 w3 (by rw [hjl]; simp)
          first | refine x_iinc2N (M := mX8_join) (pc := 161) (c := 1) dX8_join_161 oI1 ?_ | refine x_iinc2 (M := mX8_join) (pc := 161) (c := 1) dX8_join_161 (by decide) ?_
          refine x_goto (M := mX8_join) (pc := 164) 57 dX8_join_164 (by decide) ?_
          have e : jL hi wi ly (lfA ly n) (c + 1) = J ++ [jMk (lfA ly n c) (lfA ly n (c + wi)) (if (ly (lfA ly n c)).2.2 then 2 else 3)] := by rw [jL, ← hJ, jAt2, p2, if_pos y]
          rw [← e] at hI2
          refine x_use ?_ ?_ (ih (c + 1) (by omega) (by omega) h2 ja' xs' _ hI2)
          · rw [e, List.length_append, List.length_singleton]; omega
          · rw [e, List.length_append, List.length_singleton]; omega
      have hcm : c % wi ≤ c := Nat.mod_le _ _
      first | with_reducible refine x_icmp_geN (M := mX8_join) (pc := 88) 115 dX8_join_88 (by decide) (by omega) (by omega) (fun y => ?_) (fun y => ?_) | refine x_icmp_ge (M := mX8_join) (pc := 88) 115 dX8_join_88 (by decide) (fun y => ?_) (fun y => ?_)
      · have e : jL hi wi ly (lfA ly n) c = jL hi wi ly (lfA ly n) c ++ jAt1 wi ly (lfA ly n) c := by rw [jAt1, p2, if_neg (by omega), List.append_nil]
        exact second h1 ja xs _ e hI
      · have hc1 := col_lt (hn ▸ z) y
        rw [← hn] at hc1
        have hj2 := (hper _ hc1).1
        have hcp := cpL_ok (n := (jL hi wi ly (lfA ly n) c).length) (by omega)
        have hg2 := gs80 ((jL hi wi ly (lfA ly n) c).length + 1)
        refine x_aload_n (M := mX8_join) (pc := 91) dX8_join_91 rfl ?_
        refine x_aload_n (M := mX8_join) (pc := 92) dX8_join_92 rfl ?_
        refine x_iload_n (M := mX8_join) (pc := 93) dX8_join_93 rfl ?_
        refine x_ialdN (M := mX8_join) (pc := 94) _ dX8_join_94 (by first | assumption | exact xu_s _ _ _ | exact (xu_n (by first | assumption | exact Ne.symm (by assumption) | exact xu_fresh (by assumption) (by assumption) | exact (xu_fresh (by assumption) (by assumption)).symm)).trans (by first | assumption | exact xu_s _ _ _ | exact (xu_n (by first | assumption | exact Ne.symm (by assumption) | exact xu_fresh (by assumption) (by assumption) | exact (xu_fresh (by assumption) (by assumption)).symm)).trans (by first | assumption | exact xu_s _ _ _ | exact (xu_n (by first | assumption | exact Ne.symm (by assumption) | exact xu_fresh (by assumption) (by assumption) | exact (xu_fresh (by assumption) (by assumption)).symm)).trans (by first | assumption | exact xu_s _ _ _)))) (by first | rfl | assumption) (by first | assumption | omega) (by first | decide | omega) ?_
        refine x_val (M := mX8_join) (pc := 95) (hT c z) ?_
        refine x_aload_n (M := mX8_join) (pc := 95) dX8_join_95 rfl ?_
        refine x_iload_n (M := mX8_join) (pc := 96) dX8_join_96 rfl ?_
        refine x_iconst (M := mX8_join) (pc := 97) (v := nI 1) dX8_join_97 (by decide) ?_
        first | with_reducible refine x_iaddN (M := mX8_join) (pc := 98) dX8_join_98 ?_ | refine x_iadd (M := mX8_join) (pc := 98) dX8_join_98 ?_
        refine x_ialdN (M := mX8_join) (pc := 99) _ dX8_join_99 (by first | assumption | exact xu_s _ _ _ | exact (xu_n (by first | assumption | exact Ne.symm (by assumption) | exact xu_fresh (by assumption) (by assumption) | exact (xu_fresh (by assumption) (by assumption)).symm)).trans (by first | assumption | exact xu_s _ _ _ | exact (xu_n (by first | assumption | exact Ne.symm (by assumption) | exact xu_fresh (by assumption) (by assumption) | exact (xu_fresh (by assumption) (by assumption)).symm)).trans (by first | assumption | exact xu_s _ _ _ | exact (xu_n (by first | assumption | exact Ne.symm (by assumption) | exact xu_fresh (by assumption) (by assumption) | exact (xu_fresh (by assumption) (by assumption)).symm)).trans (by first | assumption | exact xu_s _ _ _)))) (by first | rfl | assumption) (by first | assumption | omega) (by first | decide | omega) ?_
        refine x_val (M := mX8_join) (pc := 100) (hT _ hc1) ?_
        refine x_joinV 112 (nI (if (ly (lfA ly n c)).2.1 then 0 else 1)) (fun J => ?_) ?_
        · refine x_aload_n (M := mX8_join) (pc := 100) dX8_join_100 rfl ?_
          refine x_getN (M := mX8_join) (pc := 101) kcX6 2 rfl q481 dX8_join_101 (by first | assumption | exact xu_s _ _ _ | exact (xu_n (by first | assumption | exact Ne.symm (by assumption) | exact xu_fresh (by assumption) (by assumption) | exact (xu_fresh (by assumption) (by assumption)).symm)).trans (by first | assumption | exact xu_s _ _ _ | exact (xu_n (by first | assumption | exact Ne.symm (by assumption) | exact xu_fresh (by assumption) (by assumption) | exact (xu_fresh (by assumption) (by assumption)).symm)).trans (by first | assumption | exact xu_s _ _ _ | exact (xu_n (by first | assumption | exact Ne.symm (by assumption) | exact xu_fresh (by assumption) (by assumption) | exact (xu_fresh (by assumption) (by assumption)).symm)).trans (by first | assumption | exact xu_s _ _ _)))) rfl ?_
          first | with_reducible refine x_ifB_eq (M := mX8_join) (pc := 104) 111 dX8_join_104 (by decide) (fun c104 => ?_) (fun c104 => ?_) | with_reducible refine x_if_eqN (M := mX8_join) (pc := 104) 111 dX8_join_104 (by decide) (by omega) (fun c104 => ?_) (fun c104 => ?_) | refine x_if_eq (M := mX8_join) (pc := 104) 111 dX8_join_104 (by decide) (fun c104 => ?_) (fun c104 => ?_)
          · refine x_iconst (M := mX8_join) (pc := 111) (v := nI 1) dX8_join_111 (by decide) ?_
            exact J _ (by rw [c104]; rfl)
          · refine x_iconst (M := mX8_join) (pc := 107) (v := nI 0) dX8_join_107 (by decide) ?_
            refine x_goto (M := mX8_join) (pc := 108) 112 dX8_join_108 (by decide) ?_
            exact J _ (by rw [c104]; rfl)
        skip
        refine x_cst (M := mX8_join) (pc := 112) (fun _ _ _ hx1 => ?_)
        refine x_V3 (M := mX8_join) (pc := 112) (M' := mX8_addJoint) q1139 kVX8_addJoint dX8_join_112 (c_addJoint h1 bk jl ja (cpL (jL hi wi ly (lfA ly n) c).length) (lfA ly n c) (lfA ly n (c + 1)) (if (ly (lfA ly n c)).2.1 then 0 else 1) (d - 1) _ _ _ xs (jL hi wi ly (lfA ly n) c) (by omega) (by omega) (by omega) hbk1 hI.2.1 (by omega)) (xIs.of kcX8 hbk1) (fun v_ h2 hq_ => ?_)
        obtain ⟨hv_, ja', xs', w1, w2, w3⟩ := hq_; cases hv_
        have hI2 := hI.add hx1 (by omega) w1 w2 w3 (by rw [hjl]; simp)
        refine x_use ?_ ?_ (second h2 ja' xs' _ (by rw [jAt1, p2, if_pos y]) hI2)
        · rw [List.length_append, List.length_singleton]; omega
        · rw [List.length_append, List.length_singleton]; omega
theorem c_join (hB : xH) (bk sh lv jl d n hi wi : Nat) (hd : 9 ≤ d) (vsb : Value) (P : Nat → Nat) (s : Row) (ly : Nat → Lay) (La : Nat → Nat) (f : Nat → Option Nat) (hhi : hi = zHi s) (hwi : wi = zWi s) (hn : n = hi * wi) (hn16 : n ≤ 16) (hh4 : hi ≤ 4) (hw4 : wi ≤ 4) (hw0 : 0 < wi) (hbk : hB bk = some (.inr (8, [.ref sh, .ref lv, .ref jl, vsb]))) (hsh : hB sh = some (shE P s)) (hlv : hB lv = some (.inl (xdA g 4, n, .inr (.inr (.inr (.inr f)))))) (hf : ∀ k, k < n → f k = some (La k)) (hly : ∀ t, t < n → hB (La t) = some (lyE ((ly t).1 / wi) ((ly t).1 % wi) (ly t).2)) (hper : ∀ t, t < n → (ly t).1 < n ∧ lfA ly n t < n ∧ (ly (lfA ly n t)).1 = t) (hjl : ALC g hB jl (xca g 0 0) 0 []) :
    Ct g l mX8_join d 65 (n + 96 + 80) [.ref bk] hB (fun o h' => o = .inl none ∧ ∃ ja xs cap, JO g h' jl ja cap xs (jL hi wi ly (lfA ly n) n) ∧ xle1 jl hB h') := by
  refine Ct.of [some (.ref bk), none, none, none] (by decide +kernel) rfl (Nat.le_of_ble_eq_true rfl) rfl rfl ?_
  refine x_cst (M := mX8_join) (pc := 0) (fun _ _ _ hx0 => ?_)
  refine x_aload_n (M := mX8_join) (pc := 0) dX8_join_0 rfl ?_
  refine x_get (M := mX8_join) (pc := 1) kcX8 1 rfl q1200 dX8_join_1 (by first | assumption | exact xu_s _ _ _ | exact (xu_n (by first | assumption | exact Ne.symm (by assumption) | exact xu_fresh (by assumption) (by assumption) | exact (xu_fresh (by assumption) (by assumption)).symm)).trans (by first | assumption | exact xu_s _ _ _ | exact (xu_n (by first | assumption | exact Ne.symm (by assumption) | exact xu_fresh (by assumption) (by assumption) | exact (xu_fresh (by assumption) (by assumption)).symm)).trans (by first | assumption | exact xu_s _ _ _ | exact (xu_n (by first | assumption | exact Ne.symm (by assumption) | exact xu_fresh (by assumption) (by assumption) | exact (xu_fresh (by assumption) (by assumption)).symm)).trans (by first | assumption | exact xu_s _ _ _)))) rfl ?_
  refine x_alen (M := mX8_join) (pc := 4) dX8_join_4 (by first | assumption | exact xu_s _ _ _ | exact (xu_n (by first | assumption | exact Ne.symm (by assumption) | exact xu_fresh (by assumption) (by assumption) | exact (xu_fresh (by assumption) (by assumption)).symm)).trans (by first | assumption | exact xu_s _ _ _ | exact (xu_n (by first | assumption | exact Ne.symm (by assumption) | exact xu_fresh (by assumption) (by assumption) | exact (xu_fresh (by assumption) (by assumption)).symm)).trans (by first | assumption | exact xu_s _ _ _ | exact (xu_n (by first | assumption | exact Ne.symm (by assumption) | exact xu_fresh (by assumption) (by assumption) | exact (xu_fresh (by assumption) (by assumption)).symm)).trans (by first | assumption | exact xu_s _ _ _)))) rfl ?_
  refine x_newI (M := mX8_join) (pc := 5) _ dX8_join_5 (by first | rfl | assumption) (by first | exact Nat.le_of_ble_eq_true rfl | omega) (by first | exact Nat.le_of_ble_eq_true rfl | omega) (by first | exact Nat.le_of_ble_eq_true rfl | omega) (fun q5_ hq5_ hb5_ => ?_)
  (try simp only [xu_noneI] at hq5_)
  repeat (obtain ⟨_, hq5_⟩ : _ ∧ _ := hq5_)
  refine x_astore1 (M := mX8_join) (pc := 7) dX8_join_7 ?_
  refine x_iconst (M := mX8_join) (pc := 8) (v := nI 0) dX8_join_8 (by decide) ?_
  refine x_istore2 (M := mX8_join) (pc := 9) dX8_join_9 ?_
  have hq : hB q5_ = none := hq5_
  have hjo : ∃ fs, hB jl = some (.inr (28, fs)) := by obtain ⟨m, f, z⟩ := hjl; exact ⟨_, z.1⟩
  rw [Nat.zero_add n]
  refine j_jn1 hB bk sh lv jl q5_ d n hi wi _ _ vsb P s ly La f hhi hwi hn16 hw4 hw0 hbk hsh hlv hf hly (fun t ht => (hper t ht).1) hq _ _ _ (fun h1 T hT hv hle => ?_) n 0 (by omega) (by omega) _ _ (xu_s _ _ _) (fun c hc => rfl) (xle.fr hq)
  have hjl1 : JO g h1 jl (xca g 0 0) 0 [] [] := ⟨by obtain ⟨m, f, z⟩ := hjl; exact ⟨m, f, z.le hle⟩, rfl, fun k hk => absurd hk (Nat.not_lt_zero _)⟩
  exact j_jn2 hB bk sh lv jl q5_ d n hi wi hd vsb P s ly La f hhi hwi hn hn16 hh4 hw4 hw0 hbk hsh hlv hf hly (fun t ht => (hper t ht).2) hjo T hv _ (fun h2 ja xs w1 w2 => ⟨rfl, ja, xs, _, w1, w2⟩) n 0 (by omega) (by omega) h1 _ _ _ ⟨hT, hjl1, hx0, fun a e _ ha => hle a e ha⟩
end JOIN

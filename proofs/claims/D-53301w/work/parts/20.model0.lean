/-! The reference's heap: one object and its arrays, by the fields' places. -/
section MODEL0
set_option maxRecDepth 100000
abbrev mArr : List Nat := [0, 1, 2, 5, 10, 11, 12, 13, 14, 15, 16, 17, 23, 27, 29, 30]
def mSz : Nat → Nat
  | 0 => 464 | 1 => 2320 | 2 => 464 | 5 => 120 | 23 => 4 | 29 => 32 | 30 => 12 | _ => 16
def mObj (A : Nat → Nat) (I : Nat → Int32) (wd : Int64) : List Value := [.ref (A 0), .ref (A 1), .ref (A 2), .int (I 3), .int (I 4), .ref (A 5), .int (I 6), .int (I 7), .int (I 8), .int (I 9), .ref (A 10), .ref (A 11), .ref (A 12), .ref (A 13), .ref (A 14), .ref (A 15), .ref (A 16), .ref (A 17), .int (I 18), .int (I 19), .int (I 20), .long wd, .int (I 22), .ref (A 23), .int (I 24), .int (I 25), .int (I 26), .ref (A 27), .int (I 28), .ref (A 29), .ref (A 30)]
/-- the reference at m: its int fields I, its arrays' contents B, its long field wd; A: the arrays' addresses -/
def MR (g : xG) (h : xH) (m : Nat) (A : Nat → Nat) (I : Nat → Int32) (B : Nat → Nat → Int32) (wd : Int64) : Prop :=
  h m = some (.inr (3, mObj A I wd)) ∧ (∀ j ∈ mArr, h (A j) = some (.inl (xdA g 0, mSz j, .inl (B j)))) ∧ (∀ i ∈ mArr, ∀ j ∈ mArr, A i = A j → i = j) ∧ (∀ j ∈ mArr, A j ≠ m)
/-- nothing but the reference's cells has changed -/
def MF (m : Nat) (A : Nat → Nat) (h h' : xH) : Prop := ∀ a, a ≠ m → (∀ j ∈ mArr, a ≠ A j) → h' a = h a
theorem MF.rf {m : Nat} {A : Nat → Nat} {h : xH} : MF m A h h := fun _ _ _ => rfl
theorem MF.tr {m : Nat} {A : Nat → Nat} {h h1 h2 : xH} (a : MF m A h h1) (b : MF m A h1 h2) : MF m A h h2 := fun q h1 h2 => (b q h1 h2).trans (a q h1 h2)
theorem MF.arr {m : Nat} {A : Nat → Nat} {h : xH} {j : Nat} (hj : j ∈ mArr) (e : va_E) : MF m A h (xu h (A j) e) := fun q _ h2 => xu_n (h2 j hj)
theorem MF.obj {m : Nat} {A : Nat → Nat} {h : xH} (e : va_E) : MF m A h (xu h m e) := fun q h1 _ => xu_n h1
theorem MR.arr {g : xG} {h : xH} {m : Nat} {A : Nat → Nat} {I : Nat → Int32} {B : Nat → Nat → Int32} {wd : Int64} (hM : MR g h m A I B wd) {j : Nat} (hj : j ∈ mArr) (f : Nat → Int32) : MR g (xu h (A j) (.inl (xdA g 0, mSz j, .inl f))) m A I (va_up B j f) wd := by
  refine ⟨by rw [xu_n (Ne.symm (hM.2.2.2 j hj))]; exact hM.1, fun i hi => ?_, hM.2.2.1, hM.2.2.2⟩
  by_cases e : i = j
  · subst e; rw [xu_s]; simp [va_up]
  · rw [xu_n (fun q => e (hM.2.2.1 i hi j hj q)), hM.2.1 i hi]; simp [va_up, e]
theorem MR.obj {g : xG} {h : xH} {m : Nat} {A : Nat → Nat} {I : Nat → Int32} {B : Nat → Nat → Int32} {wd : Int64} (hM : MR g h m A I B wd) (I' : Nat → Int32) (wd' : Int64) : MR g (xu h m (.inr (3, mObj A I' wd'))) m A I' B wd' :=
  ⟨xu_s _ _ _, fun i hi => by rw [xu_n (hM.2.2.2 i hi)]; exact hM.2.1 i hi, hM.2.2.1, hM.2.2.2⟩
theorem MR.is {g : xG} {h : xH} {m : Nat} {A : Nat → Nat} {I : Nat → Int32} {B : Nat → Nat → Int32} {wd : Int64} (hM : MR g h m A I B wd) : xIs g h m RX3 := xIs.of kcX3 hM.1
variable {g : xG} {l : Launch} {M : xM} {d mc ms : Nat} {Q : xO → xH → Prop} {pc : Nat} {L : List (Option Value)} {st : List Value} {h : xH} {uc us : Nat}
variable {m : Nat} {A : Nat → Nat} {I : Nat → Int32} {B : Nat → Nat → Int32} {wd : Int64}
theorem xm_iald {j t : Nat} (hM : MR g h m A I B wd) (hd : decode M.2.1 pc = .ok (.iaload, 1)) (hj : j ∈ mArr) (ht : t < mSz j) (kk : X g l M d mc ms Q (pc + 1) L (.int (B j t) :: st) h uc us) : X g l M d mc ms Q pc L (.int (nI t) :: .ref (A j) :: st) h uc us :=
  x_ialdN t hd (hM.2.1 j hj) rfl ht (by have : mSz j ≤ 2320 := by (unfold mSz; split <;> omega)
                                        omega) kk
theorem xm_ialdV {j t : Nat} {v : Int32} (hM : MR g h m A I B wd) (hd : decode M.2.1 pc = .ok (.iaload, 1)) (hv : B j t = v) (hj : j ∈ mArr) (ht : t < mSz j) (kk : X g l M d mc ms Q (pc + 1) L (.int v :: st) h uc us) : X g l M d mc ms Q pc L (.int (nI t) :: .ref (A j) :: st) h uc us := by
  subst hv; exact xm_iald hM hd hj ht kk
theorem xm_iast {j t : Nat} {x : Int32} {h0 : xH} (hM : MR g h m A I B wd) (hF : MF m A h0 h) (hd : decode M.2.1 pc = .ok (.iastore, 1)) (hj : j ∈ mArr) (ht : t < mSz j) (kk : ∀ h', MR g h' m A I (va_up B j (upd (B j) t x)) wd → MF m A h0 h' → X g l M d mc ms Q (pc + 1) L st h' uc us) : X g l M d mc ms Q pc L (.int x :: .int (nI t) :: .ref (A j) :: st) h uc us :=
  x_iastN t hd (hM.2.1 j hj) rfl ht (by have : mSz j ≤ 2320 := by (unfold mSz; split <;> omega)
                                        omega) (kk _ (hM.arr hj _) (hF.tr (MF.arr hj _)))
theorem xm_put3 {idx : Nat} {x : Int32} {h0 : xH} (hM : MR g h m A I B wd) (hF : MF m A h0 h) (hl : Cond.fieldLink M.1.cls idx (TX3 3).1 (TX3 3).2.1 (TX3 3).2.2.1 ∈ lw_all) (hd : decode M.2.1 pc = .ok (.putfield idx, 3)) (kk : ∀ h', MR g h' m A (upd I 3 x) B wd → MF m A h0 h' → X g l M d mc ms Q (pc + 3) L st h' uc us) : X g l M d mc ms Q pc L (.int x :: .ref m :: st) h uc us :=
  x_Gput kcX3 3 rfl hl rfl hd hM.1 (Nat.le_of_ble_eq_true rfl) (fs' := mObj A (upd I 3 x) wd) rfl rfl rfl (kk _ (hM.obj _ _) (hF.tr (MF.obj _)))
theorem xm_put4 {idx : Nat} {x : Int32} {h0 : xH} (hM : MR g h m A I B wd) (hF : MF m A h0 h) (hl : Cond.fieldLink M.1.cls idx (TX3 4).1 (TX3 4).2.1 (TX3 4).2.2.1 ∈ lw_all) (hd : decode M.2.1 pc = .ok (.putfield idx, 3)) (kk : ∀ h', MR g h' m A (upd I 4 x) B wd → MF m A h0 h' → X g l M d mc ms Q (pc + 3) L st h' uc us) : X g l M d mc ms Q pc L (.int x :: .ref m :: st) h uc us :=
  x_Gput kcX3 4 rfl hl rfl hd hM.1 (Nat.le_of_ble_eq_true rfl) (fs' := mObj A (upd I 4 x) wd) rfl rfl rfl (kk _ (hM.obj _ _) (hF.tr (MF.obj _)))
theorem xm_put7 {idx : Nat} {x : Int32} {h0 : xH} (hM : MR g h m A I B wd) (hF : MF m A h0 h) (hl : Cond.fieldLink M.1.cls idx (TX3 7).1 (TX3 7).2.1 (TX3 7).2.2.1 ∈ lw_all) (hd : decode M.2.1 pc = .ok (.putfield idx, 3)) (kk : ∀ h', MR g h' m A (upd I 7 x) B wd → MF m A h0 h' → X g l M d mc ms Q (pc + 3) L st h' uc us) : X g l M d mc ms Q pc L (.int x :: .ref m :: st) h uc us :=
  x_Gput kcX3 7 rfl hl rfl hd hM.1 (Nat.le_of_ble_eq_true rfl) (fs' := mObj A (upd I 7 x) wd) rfl rfl rfl (kk _ (hM.obj _ _) (hF.tr (MF.obj _)))
theorem xm_put8 {idx : Nat} {x : Int32} {h0 : xH} (hM : MR g h m A I B wd) (hF : MF m A h0 h) (hl : Cond.fieldLink M.1.cls idx (TX3 8).1 (TX3 8).2.1 (TX3 8).2.2.1 ∈ lw_all) (hd : decode M.2.1 pc = .ok (.putfield idx, 3)) (kk : ∀ h', MR g h' m A (upd I 8 x) B wd → MF m A h0 h' → X g l M d mc ms Q (pc + 3) L st h' uc us) : X g l M d mc ms Q pc L (.int x :: .ref m :: st) h uc us :=
  x_Gput kcX3 8 rfl hl rfl hd hM.1 (Nat.le_of_ble_eq_true rfl) (fs' := mObj A (upd I 8 x) wd) rfl rfl rfl (kk _ (hM.obj _ _) (hF.tr (MF.obj _)))
theorem xm_put9 {idx : Nat} {x : Int32} {h0 : xH} (hM : MR g h m A I B wd) (hF : MF m A h0 h) (hl : Cond.fieldLink M.1.cls idx (TX3 9).1 (TX3 9).2.1 (TX3 9).2.2.1 ∈ lw_all) (hd : decode M.2.1 pc = .ok (.putfield idx, 3)) (kk : ∀ h', MR g h' m A (upd I 9 x) B wd → MF m A h0 h' → X g l M d mc ms Q (pc + 3) L st h' uc us) : X g l M d mc ms Q pc L (.int x :: .ref m :: st) h uc us :=
  x_Gput kcX3 9 rfl hl rfl hd hM.1 (Nat.le_of_ble_eq_true rfl) (fs' := mObj A (upd I 9 x) wd) rfl rfl rfl (kk _ (hM.obj _ _) (hF.tr (MF.obj _)))
theorem xm_put18 {idx : Nat} {x : Int32} {h0 : xH} (hM : MR g h m A I B wd) (hF : MF m A h0 h) (hl : Cond.fieldLink M.1.cls idx (TX3 18).1 (TX3 18).2.1 (TX3 18).2.2.1 ∈ lw_all) (hd : decode M.2.1 pc = .ok (.putfield idx, 3)) (kk : ∀ h', MR g h' m A (upd I 18 x) B wd → MF m A h0 h' → X g l M d mc ms Q (pc + 3) L st h' uc us) : X g l M d mc ms Q pc L (.int x :: .ref m :: st) h uc us :=
  x_Gput kcX3 18 rfl hl rfl hd hM.1 (Nat.le_of_ble_eq_true rfl) (fs' := mObj A (upd I 18 x) wd) rfl rfl rfl (kk _ (hM.obj _ _) (hF.tr (MF.obj _)))
theorem xm_put19 {idx : Nat} {x : Int32} {h0 : xH} (hM : MR g h m A I B wd) (hF : MF m A h0 h) (hl : Cond.fieldLink M.1.cls idx (TX3 19).1 (TX3 19).2.1 (TX3 19).2.2.1 ∈ lw_all) (hd : decode M.2.1 pc = .ok (.putfield idx, 3)) (kk : ∀ h', MR g h' m A (upd I 19 x) B wd → MF m A h0 h' → X g l M d mc ms Q (pc + 3) L st h' uc us) : X g l M d mc ms Q pc L (.int x :: .ref m :: st) h uc us :=
  x_Gput kcX3 19 rfl hl rfl hd hM.1 (Nat.le_of_ble_eq_true rfl) (fs' := mObj A (upd I 19 x) wd) rfl rfl rfl (kk _ (hM.obj _ _) (hF.tr (MF.obj _)))
theorem xm_put20 {idx : Nat} {x : Int32} {h0 : xH} (hM : MR g h m A I B wd) (hF : MF m A h0 h) (hl : Cond.fieldLink M.1.cls idx (TX3 20).1 (TX3 20).2.1 (TX3 20).2.2.1 ∈ lw_all) (hd : decode M.2.1 pc = .ok (.putfield idx, 3)) (kk : ∀ h', MR g h' m A (upd I 20 x) B wd → MF m A h0 h' → X g l M d mc ms Q (pc + 3) L st h' uc us) : X g l M d mc ms Q pc L (.int x :: .ref m :: st) h uc us :=
  x_Gput kcX3 20 rfl hl rfl hd hM.1 (Nat.le_of_ble_eq_true rfl) (fs' := mObj A (upd I 20 x) wd) rfl rfl rfl (kk _ (hM.obj _ _) (hF.tr (MF.obj _)))
theorem xm_put22 {idx : Nat} {x : Int32} {h0 : xH} (hM : MR g h m A I B wd) (hF : MF m A h0 h) (hl : Cond.fieldLink M.1.cls idx (TX3 22).1 (TX3 22).2.1 (TX3 22).2.2.1 ∈ lw_all) (hd : decode M.2.1 pc = .ok (.putfield idx, 3)) (kk : ∀ h', MR g h' m A (upd I 22 x) B wd → MF m A h0 h' → X g l M d mc ms Q (pc + 3) L st h' uc us) : X g l M d mc ms Q pc L (.int x :: .ref m :: st) h uc us :=
  x_Gput kcX3 22 rfl hl rfl hd hM.1 (Nat.le_of_ble_eq_true rfl) (fs' := mObj A (upd I 22 x) wd) rfl rfl rfl (kk _ (hM.obj _ _) (hF.tr (MF.obj _)))
theorem xm_put24 {idx : Nat} {x : Int32} {h0 : xH} (hM : MR g h m A I B wd) (hF : MF m A h0 h) (hl : Cond.fieldLink M.1.cls idx (TX3 24).1 (TX3 24).2.1 (TX3 24).2.2.1 ∈ lw_all) (hd : decode M.2.1 pc = .ok (.putfield idx, 3)) (kk : ∀ h', MR g h' m A (upd I 24 x) B wd → MF m A h0 h' → X g l M d mc ms Q (pc + 3) L st h' uc us) : X g l M d mc ms Q pc L (.int x :: .ref m :: st) h uc us :=
  x_Gput kcX3 24 rfl hl rfl hd hM.1 (Nat.le_of_ble_eq_true rfl) (fs' := mObj A (upd I 24 x) wd) rfl rfl rfl (kk _ (hM.obj _ _) (hF.tr (MF.obj _)))
theorem xm_put26 {idx : Nat} {x : Int32} {h0 : xH} (hM : MR g h m A I B wd) (hF : MF m A h0 h) (hl : Cond.fieldLink M.1.cls idx (TX3 26).1 (TX3 26).2.1 (TX3 26).2.2.1 ∈ lw_all) (hd : decode M.2.1 pc = .ok (.putfield idx, 3)) (kk : ∀ h', MR g h' m A (upd I 26 x) B wd → MF m A h0 h' → X g l M d mc ms Q (pc + 3) L st h' uc us) : X g l M d mc ms Q pc L (.int x :: .ref m :: st) h uc us :=
  x_Gput kcX3 26 rfl hl rfl hd hM.1 (Nat.le_of_ble_eq_true rfl) (fs' := mObj A (upd I 26 x) wd) rfl rfl rfl (kk _ (hM.obj _ _) (hF.tr (MF.obj _)))
theorem xm_put28 {idx : Nat} {x : Int32} {h0 : xH} (hM : MR g h m A I B wd) (hF : MF m A h0 h) (hl : Cond.fieldLink M.1.cls idx (TX3 28).1 (TX3 28).2.1 (TX3 28).2.2.1 ∈ lw_all) (hd : decode M.2.1 pc = .ok (.putfield idx, 3)) (kk : ∀ h', MR g h' m A (upd I 28 x) B wd → MF m A h0 h' → X g l M d mc ms Q (pc + 3) L st h' uc us) : X g l M d mc ms Q pc L (.int x :: .ref m :: st) h uc us :=
  x_Gput kcX3 28 rfl hl rfl hd hM.1 (Nat.le_of_ble_eq_true rfl) (fs' := mObj A (upd I 28 x) wd) rfl rfl rfl (kk _ (hM.obj _ _) (hF.tr (MF.obj _)))
theorem xm_put6 {idx : Nat} {x : Int32} {h0 : xH} (hM : MR g h m A I B wd) (hF : MF m A h0 h) (hl : Cond.fieldLink M.1.cls idx (TX3 6).1 (TX3 6).2.1 (TX3 6).2.2.1 ∈ lw_all) (hd : decode M.2.1 pc = .ok (.putfield idx, 3)) (hx : x = 0 ∨ x = 1) (kk : ∀ h', MR g h' m A (upd I 6 x) B wd → MF m A h0 h' → X g l M d mc ms Q (pc + 3) L st h' uc us) : X g l M d mc ms Q pc L (.int x :: .ref m :: st) h uc us :=
  x_Gput kcX3 6 rfl hl rfl hd hM.1 (Nat.le_of_ble_eq_true rfl) (fs' := mObj A (upd I 6 x) wd) rfl (xnar hx) (xfit hx) (kk _ (hM.obj _ _) (hF.tr (MF.obj _)))
theorem xm_put25 {idx : Nat} {x : Int32} {h0 : xH} (hM : MR g h m A I B wd) (hF : MF m A h0 h) (hl : Cond.fieldLink M.1.cls idx (TX3 25).1 (TX3 25).2.1 (TX3 25).2.2.1 ∈ lw_all) (hd : decode M.2.1 pc = .ok (.putfield idx, 3)) (hx : x = 0 ∨ x = 1) (kk : ∀ h', MR g h' m A (upd I 25 x) B wd → MF m A h0 h' → X g l M d mc ms Q (pc + 3) L st h' uc us) : X g l M d mc ms Q pc L (.int x :: .ref m :: st) h uc us :=
  x_Gput kcX3 25 rfl hl rfl hd hM.1 (Nat.le_of_ble_eq_true rfl) (fs' := mObj A (upd I 25 x) wd) rfl (xnar hx) (xfit hx) (kk _ (hM.obj _ _) (hF.tr (MF.obj _)))
theorem xm_put21 {idx : Nat} {x : Int64} {h0 : xH} (hM : MR g h m A I B wd) (hF : MF m A h0 h) (hl : Cond.fieldLink M.1.cls idx (TX3 21).1 (TX3 21).2.1 (TX3 21).2.2.1 ∈ lw_all) (hd : decode M.2.1 pc = .ok (.putfield idx, 3)) (kk : ∀ h', MR g h' m A I B x → MF m A h0 h' → X g l M d mc ms Q (pc + 3) L st h' uc us) : X g l M d mc ms Q pc L (.long x :: .ref m :: st) h uc us :=
  x_Gput kcX3 21 rfl hl rfl hd hM.1 (Nat.le_of_ble_eq_true rfl) (fs' := mObj A I x) rfl rfl rfl (kk _ (hM.obj _ _) (hF.tr (MF.obj _)))
/-- a contract of one of the reference's methods -/
def MC (g : xG) (l : Launch) (M : xM) (d : Nat) (av : List Value) (m : Nat) (A : Nat → Nat) (I : Nat → Int32) (B : Nat → Nat → Int32) (wd : Int64) (Q : Option Value → (Nat → Int32) → (Nat → Nat → Int32) → Int64 → Prop) : Prop :=
  ∀ h, MR g h m A I B wd → Ct g l M d 0 0 (.ref m :: av) h (fun o h' => ∃ v I' B' wd', o = .inl v ∧ Q v I' B' wd' ∧ MR g h' m A I' B' wd' ∧ MF m A h h')
/-- a contract of a method that changes nothing -/
def MCr (g : xG) (l : Launch) (M : xM) (d : Nat) (av : List Value) (m : Nat) (A : Nat → Nat) (I : Nat → Int32) (B : Nat → Nat → Int32) (wd : Int64) (r : Option Value) : Prop :=
  ∀ h, MR g h m A I B wd → Ct g l M d 0 0 (.ref m :: av) h (fun o h' => o = .inl r ∧ h' = h)
end MODEL0
theorem MR.toB {g : xG} {h : xH} {m : Nat} {A : Nat → Nat} {I : Nat → Int32} {B B' : Nat → Nat → Int32} {wd : Int64} (hM : MR g h m A I B wd) (e : ∀ j t, B j t = B' j t) : MR g h m A I B' wd := by
  have : B = B' := by funext j t; exact e j t
  rw [← this]; exact hM
theorem MR.toI {g : xG} {h : xH} {m : Nat} {A : Nat → Nat} {I I' : Nat → Int32} {B : Nat → Nat → Int32} {wd : Int64} (hM : MR g h m A I B wd) (e : ∀ j, I j = I' j) : MR g h m A I' B wd := by
  have : I = I' := by funext j; exact e j
  rw [← this]; exact hM

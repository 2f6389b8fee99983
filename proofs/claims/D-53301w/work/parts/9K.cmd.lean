/-! commands as data; which method runs (by program: gen_cmd.py) -/
section CMD
set_option maxRecDepth 100000
variable {g : xG} {l : Launch} {h h0 h' : xH}
/-- the cell of command k with the numbers a -/
def cmE (k : Nat) (a : Nat → Int32) : va_E := match k with
  | 0 => .inr (4, [.int (a 0), .int (a 1)])
  | 1 => .inr (11, [.int (a 0)])
  | 2 => .inr (39, [])
  | 3 => .inr (12, [.int (a 0)])
  | 4 => .inr (13, [.int (a 0), .int (a 1), .int (a 2), .int (a 3), .int (a 4)])
  | 5 => .inr (14, [.int (a 0)])
  | 6 => .inr (15, [.int (a 0)])
  | 7 => .inr (16, [.int (a 0)])
  | 8 => .inr (17, [.int (a 0)])
  | 9 => .inr (18, [.int (a 0)])
  | 10 => .inr (19, [.int (a 0), .int (a 1), .int (a 2)])
  | 11 => .inr (40, [])
  | 12 => .inr (20, [.int (a 0), .int (a 1), .int (a 2), .int (a 3)])
  | 13 => .inr (21, [.int (a 0)])
  | _ => .inr (22, [.int (a 0)])
def cmF (k : Nat) (a : Nat → Int32) (s : Row) : CRes := match k with
  | 0 => c_setSheet s (a 0) (a 1)
  | 1 => c_fold s (a 0)
  | 2 => c_unfold s 
  | 3 => c_setSpine s (a 0)
  | 4 => c_print s (a 0) (a 1) (a 2) (a 3) (a 4)
  | 5 => c_printAll s (a 0)
  | 6 => c_cut s (a 0)
  | 7 => c_staple s (a 0)
  | 8 => c_unstaple s (a 0)
  | 9 => c_setLegs s (a 0)
  | 10 => c_see s (a 0) (a 1) (a 2)
  | 11 => c_forget s 
  | 12 => c_addNote s (a 0) (a 1) (a 2) (a 3)
  | 13 => c_removeNote s (a 0)
  | _ => c_setLines s (a 0)
theorem qIF_X4_check : xIF RX4 xIchk mX4_check 1 := ⟨q553, q555, kCX4_check, by decide +kernel, rfl, by decide +kernel⟩
theorem qIF_X4_carryOut : xIF RX4 xIout mX4_carryOut 1 := ⟨q1245, q1247, kCX4_carryOut, by decide +kernel, rfl, by decide +kernel⟩
theorem qIF_X11_check : xIF RX11 xIchk mX11_check 1 := ⟨q446, q448, kCX11_check, by decide +kernel, rfl, by decide +kernel⟩
theorem qIF_X11_carryOut : xIF RX11 xIout mX11_carryOut 1 := ⟨q1219, q1221, kCX11_carryOut, by decide +kernel, rfl, by decide +kernel⟩
theorem qIF_X12_check : xIF RX12 xIchk mX12_check 1 := ⟨q627, q629, kCX12_check, by decide +kernel, rfl, by decide +kernel⟩
theorem qIF_X12_carryOut : xIF RX12 xIout mX12_carryOut 1 := ⟨q1353, q1355, kCX12_carryOut, by decide +kernel, rfl, by decide +kernel⟩
theorem qIF_X13_check : xIF RX13 xIchk mX13_check 1 := ⟨q605, q607, kCX13_check, by decide +kernel, rfl, by decide +kernel⟩
theorem qIF_X13_carryOut : xIF RX13 xIout mX13_carryOut 1 := ⟨q1338, q1340, kCX13_carryOut, by decide +kernel, rfl, by decide +kernel⟩
theorem qIF_X14_check : xIF RX14 xIchk mX14_check 1 := ⟨q562, q564, kCX14_check, by decide +kernel, rfl, by decide +kernel⟩
theorem qIF_X14_carryOut : xIF RX14 xIout mX14_carryOut 1 := ⟨q1253, q1255, kCX14_carryOut, by decide +kernel, rfl, by decide +kernel⟩
theorem qIF_X15_check : xIF RX15 xIchk mX15_check 1 := ⟨q576, q578, kCX15_check, by decide +kernel, rfl, by decide +kernel⟩
theorem qIF_X15_carryOut : xIF RX15 xIout mX15_carryOut 1 := ⟨q1266, q1268, kCX15_carryOut, by decide +kernel, rfl, by decide +kernel⟩
theorem qIF_X16_check : xIF RX16 xIchk mX16_check 1 := ⟨q424, q426, kCX16_check, by decide +kernel, rfl, by decide +kernel⟩
theorem qIF_X16_carryOut : xIF RX16 xIout mX16_carryOut 1 := ⟨q1117, q1119, kCX16_carryOut, by decide +kernel, rfl, by decide +kernel⟩
theorem qIF_X17_check : xIF RX17 xIchk mX17_check 1 := ⟨q612, q614, kCX17_check, by decide +kernel, rfl, by decide +kernel⟩
theorem qIF_X17_carryOut : xIF RX17 xIout mX17_carryOut 1 := ⟨q1343, q1345, kCX17_carryOut, by decide +kernel, rfl, by decide +kernel⟩
theorem qIF_X18_check : xIF RX18 xIchk mX18_check 1 := ⟨q634, q636, kCX18_check, by decide +kernel, rfl, by decide +kernel⟩
theorem qIF_X18_carryOut : xIF RX18 xIout mX18_carryOut 1 := ⟨q1358, q1360, kCX18_carryOut, by decide +kernel, rfl, by decide +kernel⟩
theorem qIF_X19_check : xIF RX19 xIchk mX19_check 1 := ⟨q539, q541, kCX19_check, by decide +kernel, rfl, by decide +kernel⟩
theorem qIF_X19_carryOut : xIF RX19 xIout mX19_carryOut 1 := ⟨q1235, q1237, kCX19_carryOut, by decide +kernel, rfl, by decide +kernel⟩
theorem qIF_X20_check : xIF RX20 xIchk mX20_check 1 := ⟨q595, q597, kCX20_check, by decide +kernel, rfl, by decide +kernel⟩
theorem qIF_X20_carryOut : xIF RX20 xIout mX20_carryOut 1 := ⟨q1316, q1318, kCX20_carryOut, by decide +kernel, rfl, by decide +kernel⟩
theorem qIF_X21_check : xIF RX21 xIchk mX21_check 1 := ⟨q533, q535, kCX21_check, by decide +kernel, rfl, by decide +kernel⟩
theorem qIF_X21_carryOut : xIF RX21 xIout mX21_carryOut 1 := ⟨q1225, q1227, kCX21_carryOut, by decide +kernel, rfl, by decide +kernel⟩
theorem qIF_X22_check : xIF RX22 xIchk mX22_check 1 := ⟨q407, q409, kCX22_check, by decide +kernel, rfl, by decide +kernel⟩
theorem qIF_X22_carryOut : xIF RX22 xIout mX22_carryOut 1 := ⟨q1081, q1083, kCX22_carryOut, by decide +kernel, rfl, by decide +kernel⟩
theorem qIF_X23_check : xIF RX23 xIchk mX23_check 1 := ⟨q587, q589, kCX23_check, by decide +kernel, rfl, by decide +kernel⟩
theorem qIF_X23_carryOut : xIF RX23 xIout mX23_carryOut 1 := ⟨q1303, q1305, kCX23_carryOut, by decide +kernel, rfl, by decide +kernel⟩
theorem qIF_X24_check : xIF RX24 xIchk mX24_check 1 := ⟨q546, q548, kCX24_check, by decide +kernel, rfl, by decide +kernel⟩
theorem qIF_X24_carryOut : xIF RX24 xIout mX24_carryOut 1 := ⟨q1240, q1242, kCX24_carryOut, by decide +kernel, rfl, by decide +kernel⟩
theorem x_chk {M : xM} {d mc ms : Nat} {Q : xO → xH → Prop} {pc : Nat} {L : List (Option Value)} {st : List Value} {uc us : Nat} {idx cnt cm sh k : Nat} {a : Nat → Int32} {P : Nat → Nat} {s : Row} {xs ys : List Nat} (hl : Cond.methodLink M.1.cls idx xIchk ∈ lw_all) (hd : decode M.2.1 pc = .ok (.invokeinterface idx cnt, 5)) (hk : k < 15) (hcm : h cm = some (cmE k a)) (hS : SHP g h sh P s xs ys) (hW : WF s) (hdep : 8 ≤ d) (h1 : uc + 70 ≤ mc) (h2 : us + 195 ≤ ms) (hsum : (st.map fun v => v.category).sum ≤ 8) (kk : ∀ h', xle h h' → X g l M d mc ms Q (pc + 5) L (.int (kC (cmF k a s)) :: st) h' (uc + 70) (us + 195)) : X g l M d mc ms Q pc L (.ref sh :: .ref cm :: st) h uc us := by
  match k, hk, hcm, kk with
  | 0, _, hcm, kk => exact x_IF1 (M := M) (pc := pc) hl qIF_X4_check hd (ck_setSheet h cm sh (d - 1) (by omega) s (a 0) (a 1) hcm) (xIs.of kcX4 hcm) (fun v h' hq => by obtain ⟨hv_, he⟩ := hq; cases hv_; subst he; exact x_use (by omega) (by omega) (kk h' xle.rf)) (hsum := hsum)
  | 1, _, hcm, kk => exact x_IF1 (M := M) (pc := pc) hl qIF_X11_check hd (ck_fold h cm sh (d - 1) (by omega) P s xs ys hW hS (a 0) hcm) (xIs.of kcX11 hcm) (fun v h' hq => by obtain ⟨hv_, hle⟩ := hq; cases hv_; exact kk h' hle) (hsum := hsum)
  | 2, _, hcm, kk => exact x_IF1 (M := M) (pc := pc) hl qIF_X12_check hd (ck_unfold h cm sh (d - 1) (by omega) P s hW hS.1) (xIs.of kcX12 hcm) (fun v h' hq => by obtain ⟨hv_, he⟩ := hq; cases hv_; subst he; exact x_use (by omega) (by omega) (kk h' xle.rf)) (hsum := hsum)
  | 3, _, hcm, kk => exact x_IF1 (M := M) (pc := pc) hl qIF_X13_check hd (ck_spine h cm sh (d - 1) (by omega) P s hW (a 0) hS.1 hcm) (xIs.of kcX13 hcm) (fun v h' hq => by obtain ⟨hv_, he⟩ := hq; cases hv_; subst he; exact x_use (by omega) (by omega) (kk h' xle.rf)) (hsum := hsum)
  | 4, _, hcm, kk => exact x_IF1 (M := M) (pc := pc) hl qIF_X14_check hd (ck_print h cm sh (d - 1) (by omega) P s hW (a 0) (a 1) (a 2) (a 3) (a 4) hS.1 hcm) (xIs.of kcX14 hcm) (fun v h' hq => by obtain ⟨hv_, he⟩ := hq; cases hv_; subst he; exact x_use (by omega) (by omega) (kk h' xle.rf)) (hsum := hsum)
  | 5, _, hcm, kk => exact x_IF1 (M := M) (pc := pc) hl qIF_X15_check hd (ck_printAll h cm sh (d - 1) (by omega) P s hW (a 0) hS.1 hcm) (xIs.of kcX15 hcm) (fun v h' hq => by obtain ⟨hv_, he⟩ := hq; cases hv_; subst he; exact x_use (by omega) (by omega) (kk h' xle.rf)) (hsum := hsum)
  | 6, _, hcm, kk => exact x_IF1 (M := M) (pc := pc) hl qIF_X16_check hd (ck_cut h cm sh (d - 1) (by omega) P s hW (a 0) hS.1 hcm) (xIs.of kcX16 hcm) (fun v h' hq => by obtain ⟨hv_, he⟩ := hq; cases hv_; subst he; exact x_use (by omega) (by omega) (kk h' xle.rf)) (hsum := hsum)
  | 7, _, hcm, kk => exact x_IF1 (M := M) (pc := pc) hl qIF_X17_check hd (ck_staple h cm sh (d - 1) (by omega) P s hW (a 0) hS.1 hcm) (xIs.of kcX17 hcm) (fun v h' hq => by obtain ⟨hv_, he⟩ := hq; cases hv_; subst he; exact x_use (by omega) (by omega) (kk h' xle.rf)) (hsum := hsum)
  | 8, _, hcm, kk => exact x_IF1 (M := M) (pc := pc) hl qIF_X18_check hd (ck_unstaple h cm sh (d - 1) (by omega) P s hW (a 0) hS.1 hcm) (xIs.of kcX18 hcm) (fun v h' hq => by obtain ⟨hv_, he⟩ := hq; cases hv_; subst he; exact x_use (by omega) (by omega) (kk h' xle.rf)) (hsum := hsum)
  | 9, _, hcm, kk => exact x_IF1 (M := M) (pc := pc) hl qIF_X19_check hd (ck_legs h cm sh (d - 1) (by omega) s (a 0) hcm) (xIs.of kcX19 hcm) (fun v h' hq => by obtain ⟨hv_, he⟩ := hq; cases hv_; subst he; exact x_use (by omega) (by omega) (kk h' xle.rf)) (hsum := hsum)
  | 10, _, hcm, kk => exact x_IF1 (M := M) (pc := pc) hl qIF_X20_check hd (ck_see h cm sh (d - 1) (by omega) P s xs ys hW hS (a 0) (a 1) (a 2) hcm) (xIs.of kcX20 hcm) (fun v h' hq => by obtain ⟨hv_, he⟩ := hq; cases hv_; subst he; exact x_use (by omega) (by omega) (kk h' xle.rf)) (hsum := hsum)
  | 11, _, hcm, kk => exact x_IF1 (M := M) (pc := pc) hl qIF_X21_check hd (ck_forget h cm sh (d - 1) s) (xIs.of kcX21 hcm) (fun v h' hq => by obtain ⟨hv_, he⟩ := hq; cases hv_; subst he; exact x_use (by omega) (by omega) (kk h' xle.rf)) (hsum := hsum)
  | 12, _, hcm, kk => exact x_IF1 (M := M) (pc := pc) hl qIF_X22_check hd (ck_addNote h cm sh (d - 1) (by omega) P s xs ys hW hS (a 0) (a 1) (a 2) (a 3) hcm) (xIs.of kcX22 hcm) (fun v h' hq => by obtain ⟨hv_, he⟩ := hq; cases hv_; subst he; exact x_use (by omega) (by omega) (kk h' xle.rf)) (hsum := hsum)
  | 13, _, hcm, kk => exact x_IF1 (M := M) (pc := pc) hl qIF_X23_check hd (ck_remNote h cm sh (d - 1) (by omega) P s xs ys hW hS (a 0) hcm) (xIs.of kcX23 hcm) (fun v h' hq => by obtain ⟨hv_, he⟩ := hq; cases hv_; subst he; exact x_use (by omega) (by omega) (kk h' xle.rf)) (hsum := hsum)
  | 14, _, hcm, kk => exact x_IF1 (M := M) (pc := pc) hl qIF_X24_check hd (ck_lines h cm sh (d - 1) (by omega) s (a 0) hcm) (xIs.of kcX24 hcm) (fun v h' hq => by obtain ⟨hv_, he⟩ := hq; cases hv_; subst he; exact x_use (by omega) (by omega) (kk h' xle.rf)) (hsum := hsum)
theorem x_cyo {M : xM} {d mc ms : Nat} {Q : xO → xH → Prop} {pc : Nat} {L : List (Option Value)} {st : List Value} {uc us : Nat} {idx cnt cm sh k : Nat} {a : Nat → Int32} {O : Nat → Prop} {s : Row} {v : Int32} {s' : Row} (hl : Cond.methodLink M.1.cls idx xIout ∈ lw_all) (hd : decode M.2.1 pc = .ok (.invokeinterface idx cnt, 5)) (hk : k < 15) (hcm : h cm = some (cmE k a)) (hS : SH g h O sh s) (hW : WF s) (hr : cmF k a s = .inr (v, s')) (hdep : 13 ≤ d) (h1 : uc + 138 ≤ mc) (h2 : us + 411 ≤ ms) (hsum : (st.map fun v => v.category).sum ≤ 8) (kk : ∀ h', RS g O h sh s' h' → X g l M d mc ms Q (pc + 5) L (.int v :: st) h' (uc + 138) (us + 411)) : X g l M d mc ms Q pc L (.ref sh :: .ref cm :: st) h uc us := by
  match k, hk, hcm, hr, kk with
  | 0, _, hcm, hr, kk => exact x_IF1 (M := M) (pc := pc) hl qIF_X4_carryOut hd (cy_setSheet h cm sh (d - 1) (by omega) O s hW (a 0) (a 1) _ _ hr hS hcm) (xIs.of kcX4 hcm) (fun v h' hq => by obtain ⟨hv_, hR⟩ := hq; cases hv_; exact x_use (by omega) (by omega) (kk h' hR)) (hsum := hsum)
  | 1, _, hcm, hr, kk => exact x_IF1 (M := M) (pc := pc) hl qIF_X11_carryOut hd (cy_fold h cm sh (d - 1) (by omega) O s hW (a 0) _ _ hr hS hcm) (xIs.of kcX11 hcm) (fun v h' hq => by obtain ⟨hv_, hR⟩ := hq; cases hv_; exact x_use (by omega) (by omega) (kk h' hR)) (hsum := hsum)
  | 2, _, hcm, hr, kk => exact x_IF1 (M := M) (pc := pc) hl qIF_X12_carryOut hd (cy_unfold h cm sh (d - 1) O s hW  _ _ hr hS) (xIs.of kcX12 hcm) (fun v h' hq => by obtain ⟨hv_, hR⟩ := hq; cases hv_; exact x_use (by omega) (by omega) (kk h' hR)) (hsum := hsum)
  | 3, _, hcm, hr, kk => exact x_IF1 (M := M) (pc := pc) hl qIF_X13_carryOut hd (cy_spine h cm sh (d - 1) O s hW (a 0) _ _ hr hS hcm) (xIs.of kcX13 hcm) (fun v h' hq => by obtain ⟨hv_, hR⟩ := hq; cases hv_; exact x_use (by omega) (by omega) (kk h' hR)) (hsum := hsum)
  | 4, _, hcm, hr, kk => exact x_IF1 (M := M) (pc := pc) hl qIF_X14_carryOut hd (cy_print h cm sh (d - 1) (by omega) O s hW (a 0) (a 1) (a 2) (a 3) (a 4) _ _ hr hS hcm) (xIs.of kcX14 hcm) (fun v h' hq => by obtain ⟨hv_, hR⟩ := hq; cases hv_; exact x_use (by omega) (by omega) (kk h' hR)) (hsum := hsum)
  | 5, _, hcm, hr, kk => exact x_IF1 (M := M) (pc := pc) hl qIF_X15_carryOut hd (cy_printAll h cm sh (d - 1) (by omega) O s hW (a 0) _ _ hr hS hcm) (xIs.of kcX15 hcm) (fun v h' hq => by obtain ⟨hv_, hR⟩ := hq; cases hv_; exact x_use (by omega) (by omega) (kk h' hR)) (hsum := hsum)
  | 6, _, hcm, hr, kk => exact x_IF1 (M := M) (pc := pc) hl qIF_X16_carryOut hd (cy_cut h cm sh (d - 1) (by omega) O s hW (a 0) _ _ hr hS hcm) (xIs.of kcX16 hcm) (fun v h' hq => by obtain ⟨hv_, hR⟩ := hq; cases hv_; exact x_use (by omega) (by omega) (kk h' hR)) (hsum := hsum)
  | 7, _, hcm, hr, kk => exact x_IF1 (M := M) (pc := pc) hl qIF_X17_carryOut hd (cy_staple h cm sh (d - 1) (by omega) O s hW (a 0) _ _ hr hS hcm) (xIs.of kcX17 hcm) (fun v h' hq => by obtain ⟨hv_, hR⟩ := hq; cases hv_; exact x_use (by omega) (by omega) (kk h' hR)) (hsum := hsum)
  | 8, _, hcm, hr, kk => exact x_IF1 (M := M) (pc := pc) hl qIF_X18_carryOut hd (cy_unstaple h cm sh (d - 1) (by omega) O s hW (a 0) _ _ hr hS hcm) (xIs.of kcX18 hcm) (fun v h' hq => by obtain ⟨hv_, hR⟩ := hq; cases hv_; exact x_use (by omega) (by omega) (kk h' hR)) (hsum := hsum)
  | 9, _, hcm, hr, kk => exact x_IF1 (M := M) (pc := pc) hl qIF_X19_carryOut hd (cy_legs h cm sh (d - 1) O s hW (a 0) _ _ hr hS hcm) (xIs.of kcX19 hcm) (fun v h' hq => by obtain ⟨hv_, hR⟩ := hq; cases hv_; exact x_use (by omega) (by omega) (kk h' hR)) (hsum := hsum)
  | 10, _, hcm, hr, kk => exact x_IF1 (M := M) (pc := pc) hl qIF_X20_carryOut hd (cy_see h cm sh (d - 1) (by omega) O s hW (a 0) (a 1) (a 2) _ _ hr hS hcm) (xIs.of kcX20 hcm) (fun v h' hq => by obtain ⟨hv_, hR⟩ := hq; cases hv_; exact x_use (by omega) (by omega) (kk h' hR)) (hsum := hsum)
  | 11, _, hcm, hr, kk => exact x_IF1 (M := M) (pc := pc) hl qIF_X21_carryOut hd (cy_forget h cm sh (d - 1) (by omega) O s hW  _ _ hr hS) (xIs.of kcX21 hcm) (fun v h' hq => by obtain ⟨hv_, hR⟩ := hq; cases hv_; exact x_use (by omega) (by omega) (kk h' hR)) (hsum := hsum)
  | 12, _, hcm, hr, kk => exact x_IF1 (M := M) (pc := pc) hl qIF_X22_carryOut hd (cy_addNote h cm sh (d - 1) (by omega) O s hW (a 0) (a 1) (a 2) (a 3) _ _ hr hS hcm) (xIs.of kcX22 hcm) (fun v h' hq => by obtain ⟨hv_, hR⟩ := hq; cases hv_; exact x_use (by omega) (by omega) (kk h' hR)) (hsum := hsum)
  | 13, _, hcm, hr, kk => exact x_IF1 (M := M) (pc := pc) hl qIF_X23_carryOut hd (cy_remNote h cm sh (d - 1) (by omega) O s hW (a 0) _ _ hr hS hcm) (xIs.of kcX23 hcm) (fun v h' hq => by obtain ⟨hv_, hR⟩ := hq; cases hv_; exact x_use (by omega) (by omega) (kk h' hR)) (hsum := hsum)
  | 14, _, hcm, hr, kk => exact x_IF1 (M := M) (pc := pc) hl qIF_X24_carryOut hd (cy_lines h cm sh (d - 1) O s hW (a 0) _ _ hr hS hcm) (xIs.of kcX24 hcm) (fun v h' hq => by obtain ⟨hv_, hR⟩ := hq; cases hv_; exact x_use (by omega) (by omega) (kk h' hR)) (hsum := hsum)
theorem cmF_keep {k : Nat} {a : Nat → Int32} {s : Row} (hW : WF s) : KEEP s (cmF k a s) := by
  unfold cmF; split
  · exact k_setSheet hW (a 0) (a 1)
  · exact k_fold hW (a 0)
  · exact k_unfold hW 
  · exact k_setSpine hW (a 0)
  · exact k_print hW (a 0) (a 1) (a 2) (a 3) (a 4)
  · exact k_printAll hW (a 0)
  · exact k_cut hW (a 0)
  · exact k_staple hW (a 0)
  · exact k_unstaple hW (a 0)
  · exact k_setLegs hW (a 0)
  · exact k_see hW (a 0) (a 1) (a 2)
  · exact k_forget hW 
  · exact k_addNote hW (a 0) (a 1) (a 2) (a 3)
  · exact k_removeNote hW (a 0)
  · exact k_setLines hW (a 0)
end CMD

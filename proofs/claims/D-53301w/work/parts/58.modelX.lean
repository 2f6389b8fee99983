section MODELX
set_option maxRecDepth 100000
variable {g : xG} {l : Launch} {M : xM} {d mc ms : Nat} {Q : xO → xH → Prop} {pc : Nat} {L : List (Option Value)} {st : List Value} {h : xH} {uc us : Nat}
/-- everything but a stays -/
def xle1 (m : Nat) (h h' : xH) : Prop := ∀ a e, a ≠ m → h a = some e → h' a = some e
def MI (g : xG) (h0 h : xH) (m : Nat) (A : Nat → Nat) (D : List Nat) : Prop := (∀ j ∈ D, h (A j) = some (.inl (xdA g 0, mSz j, .inl fun _ => 0))) ∧ (∀ i ∈ D, ∀ j ∈ D, A i = A j → i = j) ∧ (∀ j ∈ D, A j ≠ m) ∧ (∀ j ∈ D, h0 (A j) = none)
theorem x_init1 {m q j N : Nat} {A : Nat → Nat} {D : List Nat} {fs : List Value} {e0 : va_E} {h0 : xH} (hMI : MI g h0 h m A D) (hq : h q = none) (hm : h m = some e0) (hj : j ∉ D) (hN : mSz j = N) (hF : xle1 m h0 h) (kk : ∀ h', h' m = some (.inr (3, fs)) → MI g h0 h' m (va_up A j q) (j :: D) → xle1 m h0 h' → X g l M d mc ms Q pc L st h' uc us) : X g l M d mc ms Q pc L st (xu (xu h q (.inl (xdA g 0, N, .inl fun _ => 0))) m (.inr (3, fs))) uc us := by
  subst hN
  have hqm : q ≠ m := fun e => by rw [e, hm] at hq; cases hq
  have hqa : ∀ i ∈ D, A i ≠ q := fun i hi e => by have := hMI.1 i hi; rw [e, hq] at this; cases this
  have hne : ∀ i ∈ D, i ≠ j := fun i hi e => hj (e ▸ hi)
  have ha : ∀ i ∈ D, va_up A j q i = A i := fun i hi => va_up_n _ _ (hne i hi)
  refine kk _ (xu_s _ _ _) ⟨fun i hi => ?_, fun i hi k hk e => ?_, fun i hi => ?_, fun i hi => ?_⟩ (fun a e ha h0a => ?_)
  · rcases List.mem_cons.mp hi with rfl | hi
    · rw [va_up_s, xu_n hqm, xu_s]
    · rw [ha i hi, xu_n (hMI.2.2.1 i hi), xu_n (hqa i hi)]; exact hMI.1 i hi
  · rcases List.mem_cons.mp hi with ei | hi'
    · rcases List.mem_cons.mp hk with ek | hk'
      · rw [ei, ek]
      · rw [ei, va_up_s, ha k hk'] at e; exact absurd e.symm (hqa k hk')
    · rcases List.mem_cons.mp hk with ek | hk'
      · rw [ek, va_up_s, ha i hi'] at e; exact absurd e (hqa i hi')
      · rw [ha i hi', ha k hk'] at e; exact hMI.2.1 i hi' k hk' e
  · rcases List.mem_cons.mp hi with rfl | hi
    · rw [va_up_s]; exact hqm
    · rw [ha i hi]; exact hMI.2.2.1 i hi
  · rcases List.mem_cons.mp hi with rfl | hi
    · rw [va_up_s]
      cases hz : h0 q with
      | none => rfl
      | some z => rw [hF q z hqm hz] at hq; cases hq
    · rw [ha i hi]; exact hMI.2.2.2 i hi
  · have h1 := hF a e ha h0a
    rw [xu_n ha, xu_n (xu_fresh hq h1)]; exact h1
/-- the reference's first row -/
def s0_ : Row := p_noPrint 32 (upd (upd (upd (upd (fun _ => 0) 0 2) 1 4) 10 4) 11 5)
theorem MR.of {m : Nat} {A : Nat → Nat} (hm : h m = some (.inr (3, mObj A (fun _ => 0) 0))) {h0 : xH} (hMI : MI g h0 h m A mArr) : MR g h m A (fun _ => 0) (fun _ _ => 0) 0 := ⟨hm, hMI.1, hMI.2.1, hMI.2.2.1⟩
theorem MI.perm {h0 : xH} {m : Nat} {A : Nat → Nat} {D E : List Nat} (h1 : MI g h0 h m A D) (e : ∀ j, j ∈ E → j ∈ D) : MI g h0 h m A E := ⟨fun j hj => h1.1 j (e j hj), fun i hi j hj => h1.2.1 i (e i hi) j (e j hj), fun j hj => h1.2.2.1 j (e j hj), fun j hj => h1.2.2.2 j (e j hj)⟩
theorem x_arg {m : Nat} {A : Nat → Nat} {h0 h1 : xH} {I : Nat → Int32} {B : Nat → Nat → Int32} {wd : Int64} (hM : MR g h m A I B wd) (hA : ∀ j ∈ mArr, h0 (A j) = none) (hF : MF m A h1 h) (kk : ∀ A, MR g h m A I B wd → (∀ j ∈ mArr, h0 (A j) = none) → MF m A h1 h → X g l M d mc ms Q pc L st h uc us) : X g l M d mc ms Q pc L st h uc us := kk A hM hA hF
theorem m_init (d m : Nat) (hd : 2 ≤ d) (hm : h m = some (.inr (3, [.null, .null, .null, .int 0, .int 0, .null, .int 0, .int 0, .int 0, .int 0, .null, .null, .null, .null, .null, .null, .null, .null, .int 0, .int 0, .int 0, .long 0, .int 0, .null, .int 0, .int 0, .int 0, .null, .int 0, .null, .null]))) : Ct g l mX3_init d 16 3560 [.ref m] h (fun o h' => o = .inl none ∧ ∃ A B, MR g h' m A (fun _ => 0) B 0 ∧ B 0 = s0_ ∧ xle1 m h h') := by
  have hMI : MI g h h m (fun _ => 0) [] := ⟨fun _ hz => (nomatch hz), fun _ hz => (nomatch hz), fun _ hz => (nomatch hz), fun _ hz => (nomatch hz)⟩
  have hF : xle1 m h h := fun _ _ _ h => h
  refine Ct.of [some (.ref m)] (by decide +kernel) rfl (Nat.le_of_ble_eq_true rfl) rfl rfl ?_
  refine x_aload_n (M := mX3_init) (pc := 0) dX3_init_0 rfl ?_
  refine x_objInit (M := mX3_init) (pc := 1) q2830 dX3_init_1 (by first | exact Nat.le_of_ble_eq_true rfl | omega) (by first | exact Nat.le_of_ble_eq_true rfl | (simp [xcat_rf, Value.category])) ?_
  refine x_aload_n (M := mX3_init) (pc := 4) dX3_init_4 rfl ?_
  refine x_sipush (M := mX3_init) (pc := 5) (v := 464) dX3_init_5 (by decide) ?_
  refine x_newI (M := mX3_init) (pc := 8) (464) dX3_init_8 (by first | rfl | decide) (by first | exact Nat.le_of_ble_eq_true rfl | omega) (by first | exact Nat.le_of_ble_eq_true rfl | omega) (by first | exact Nat.le_of_ble_eq_true rfl | omega) (fun q8_ hq8_ hb8_ => ?_)
  first | refine x_putF0' (M := mX3_init) (pc := 10) kcX3 q2835 dX3_init_10 ?_ | refine x_putF0 (M := mX3_init) (pc := 10) kcX3 q2835 dX3_init_10 (by exact (xu_n (Ne.symm (fun e_ => by rw [e_, hm] at hq8_; cases hq8_))).trans hm) ?_
  refine x_init1 (j := 0) (e0 := _) hMI hq8_ hm (by decide) rfl hF (fun h hm hMI hF => ?_)
  refine x_aload_n (M := mX3_init) (pc := 13) dX3_init_13 rfl ?_
  refine x_sipush (M := mX3_init) (pc := 14) (v := 2320) dX3_init_14 (by decide) ?_
  refine x_newI (M := mX3_init) (pc := 17) (2320) dX3_init_17 (by first | rfl | decide) (by first | exact Nat.le_of_ble_eq_true rfl | omega) (by first | exact Nat.le_of_ble_eq_true rfl | omega) (by first | exact Nat.le_of_ble_eq_true rfl | omega) (fun q17_ hq17_ hb17_ => ?_)
  first | refine x_putF1' (M := mX3_init) (pc := 19) kcX3 q2836 dX3_init_19 ?_ | refine x_putF1 (M := mX3_init) (pc := 19) kcX3 q2836 dX3_init_19 (by exact (xu_n (Ne.symm (fun e_ => by rw [e_, hm] at hq17_; cases hq17_))).trans hm) ?_
  refine x_init1 (j := 1) (e0 := _) hMI hq17_ hm (by decide) rfl hF (fun h hm hMI hF => ?_)
  refine x_aload_n (M := mX3_init) (pc := 22) dX3_init_22 rfl ?_
  refine x_sipush (M := mX3_init) (pc := 23) (v := 464) dX3_init_23 (by decide) ?_
  refine x_newI (M := mX3_init) (pc := 26) (464) dX3_init_26 (by first | rfl | decide) (by first | exact Nat.le_of_ble_eq_true rfl | omega) (by first | exact Nat.le_of_ble_eq_true rfl | omega) (by first | exact Nat.le_of_ble_eq_true rfl | omega) (fun q26_ hq26_ hb26_ => ?_)
  first | refine x_putF2' (M := mX3_init) (pc := 28) kcX3 q2837 dX3_init_28 ?_ | refine x_putF2 (M := mX3_init) (pc := 28) kcX3 q2837 dX3_init_28 (by exact (xu_n (Ne.symm (fun e_ => by rw [e_, hm] at hq26_; cases hq26_))).trans hm) ?_
  refine x_init1 (j := 2) (e0 := _) hMI hq26_ hm (by decide) rfl hF (fun h hm hMI hF => ?_)
  refine x_aload_n (M := mX3_init) (pc := 31) dX3_init_31 rfl ?_
  refine x_bipush (M := mX3_init) (pc := 32) (v := 120) dX3_init_32 (by decide) ?_
  refine x_newI (M := mX3_init) (pc := 34) (120) dX3_init_34 (by first | rfl | decide) (by first | exact Nat.le_of_ble_eq_true rfl | omega) (by first | exact Nat.le_of_ble_eq_true rfl | omega) (by first | exact Nat.le_of_ble_eq_true rfl | omega) (fun q34_ hq34_ hb34_ => ?_)
  first | refine x_putF5' (M := mX3_init) (pc := 36) kcX3 q2840 dX3_init_36 ?_ | refine x_putF5 (M := mX3_init) (pc := 36) kcX3 q2840 dX3_init_36 (by exact (xu_n (Ne.symm (fun e_ => by rw [e_, hm] at hq34_; cases hq34_))).trans hm) ?_
  refine x_init1 (j := 5) (e0 := _) hMI hq34_ hm (by decide) rfl hF (fun h hm hMI hF => ?_)
  refine x_aload_n (M := mX3_init) (pc := 39) dX3_init_39 rfl ?_
  refine x_bipush (M := mX3_init) (pc := 40) (v := 16) dX3_init_40 (by decide) ?_
  refine x_newI (M := mX3_init) (pc := 42) (16) dX3_init_42 (by first | rfl | decide) (by first | exact Nat.le_of_ble_eq_true rfl | omega) (by first | exact Nat.le_of_ble_eq_true rfl | omega) (by first | exact Nat.le_of_ble_eq_true rfl | omega) (fun q42_ hq42_ hb42_ => ?_)
  first | refine x_putF10' (M := mX3_init) (pc := 44) kcX3 q2845 dX3_init_44 ?_ | refine x_putF10 (M := mX3_init) (pc := 44) kcX3 q2845 dX3_init_44 (by exact (xu_n (Ne.symm (fun e_ => by rw [e_, hm] at hq42_; cases hq42_))).trans hm) ?_
  refine x_init1 (j := 10) (e0 := _) hMI hq42_ hm (by decide) rfl hF (fun h hm hMI hF => ?_)
  refine x_aload_n (M := mX3_init) (pc := 47) dX3_init_47 rfl ?_
  refine x_bipush (M := mX3_init) (pc := 48) (v := 16) dX3_init_48 (by decide) ?_
  refine x_newI (M := mX3_init) (pc := 50) (16) dX3_init_50 (by first | rfl | decide) (by first | exact Nat.le_of_ble_eq_true rfl | omega) (by first | exact Nat.le_of_ble_eq_true rfl | omega) (by first | exact Nat.le_of_ble_eq_true rfl | omega) (fun q50_ hq50_ hb50_ => ?_)
  first | refine x_putF11' (M := mX3_init) (pc := 52) kcX3 q2846 dX3_init_52 ?_ | refine x_putF11 (M := mX3_init) (pc := 52) kcX3 q2846 dX3_init_52 (by exact (xu_n (Ne.symm (fun e_ => by rw [e_, hm] at hq50_; cases hq50_))).trans hm) ?_
  refine x_init1 (j := 11) (e0 := _) hMI hq50_ hm (by decide) rfl hF (fun h hm hMI hF => ?_)
  refine x_aload_n (M := mX3_init) (pc := 55) dX3_init_55 rfl ?_
  refine x_bipush (M := mX3_init) (pc := 56) (v := 16) dX3_init_56 (by decide) ?_
  refine x_newI (M := mX3_init) (pc := 58) (16) dX3_init_58 (by first | rfl | decide) (by first | exact Nat.le_of_ble_eq_true rfl | omega) (by first | exact Nat.le_of_ble_eq_true rfl | omega) (by first | exact Nat.le_of_ble_eq_true rfl | omega) (fun q58_ hq58_ hb58_ => ?_)
  first | refine x_putF12' (M := mX3_init) (pc := 60) kcX3 q2847 dX3_init_60 ?_ | refine x_putF12 (M := mX3_init) (pc := 60) kcX3 q2847 dX3_init_60 (by exact (xu_n (Ne.symm (fun e_ => by rw [e_, hm] at hq58_; cases hq58_))).trans hm) ?_
  refine x_init1 (j := 12) (e0 := _) hMI hq58_ hm (by decide) rfl hF (fun h hm hMI hF => ?_)
  refine x_aload_n (M := mX3_init) (pc := 63) dX3_init_63 rfl ?_
  refine x_bipush (M := mX3_init) (pc := 64) (v := 16) dX3_init_64 (by decide) ?_
  refine x_newI (M := mX3_init) (pc := 66) (16) dX3_init_66 (by first | rfl | decide) (by first | exact Nat.le_of_ble_eq_true rfl | omega) (by first | exact Nat.le_of_ble_eq_true rfl | omega) (by first | exact Nat.le_of_ble_eq_true rfl | omega) (fun q66_ hq66_ hb66_ => ?_)
  first | refine x_putF13' (M := mX3_init) (pc := 68) kcX3 q2848 dX3_init_68 ?_ | refine x_putF13 (M := mX3_init) (pc := 68) kcX3 q2848 dX3_init_68 (by exact (xu_n (Ne.symm (fun e_ => by rw [e_, hm] at hq66_; cases hq66_))).trans hm) ?_
  refine x_init1 (j := 13) (e0 := _) hMI hq66_ hm (by decide) rfl hF (fun h hm hMI hF => ?_)
  refine x_aload_n (M := mX3_init) (pc := 71) dX3_init_71 rfl ?_
  refine x_bipush (M := mX3_init) (pc := 72) (v := 16) dX3_init_72 (by decide) ?_
  refine x_newI (M := mX3_init) (pc := 74) (16) dX3_init_74 (by first | rfl | decide) (by first | exact Nat.le_of_ble_eq_true rfl | omega) (by first | exact Nat.le_of_ble_eq_true rfl | omega) (by first | exact Nat.le_of_ble_eq_true rfl | omega) (fun q74_ hq74_ hb74_ => ?_)
  first | refine x_putF14' (M := mX3_init) (pc := 76) kcX3 q2849 dX3_init_76 ?_ | refine x_putF14 (M := mX3_init) (pc := 76) kcX3 q2849 dX3_init_76 (by exact (xu_n (Ne.symm (fun e_ => by rw [e_, hm] at hq74_; cases hq74_))).trans hm) ?_
  refine x_init1 (j := 14) (e0 := _) hMI hq74_ hm (by decide) rfl hF (fun h hm hMI hF => ?_)
  refine x_aload_n (M := mX3_init) (pc := 79) dX3_init_79 rfl ?_
  refine x_bipush (M := mX3_init) (pc := 80) (v := 16) dX3_init_80 (by decide) ?_
  refine x_newI (M := mX3_init) (pc := 82) (16) dX3_init_82 (by first | rfl | decide) (by first | exact Nat.le_of_ble_eq_true rfl | omega) (by first | exact Nat.le_of_ble_eq_true rfl | omega) (by first | exact Nat.le_of_ble_eq_true rfl | omega) (fun q82_ hq82_ hb82_ => ?_)
  first | refine x_putF15' (M := mX3_init) (pc := 84) kcX3 q2850 dX3_init_84 ?_ | refine x_putF15 (M := mX3_init) (pc := 84) kcX3 q2850 dX3_init_84 (by exact (xu_n (Ne.symm (fun e_ => by rw [e_, hm] at hq82_; cases hq82_))).trans hm) ?_
  refine x_init1 (j := 15) (e0 := _) hMI hq82_ hm (by decide) rfl hF (fun h hm hMI hF => ?_)
  refine x_aload_n (M := mX3_init) (pc := 87) dX3_init_87 rfl ?_
  refine x_bipush (M := mX3_init) (pc := 88) (v := 16) dX3_init_88 (by decide) ?_
  refine x_newI (M := mX3_init) (pc := 90) (16) dX3_init_90 (by first | rfl | decide) (by first | exact Nat.le_of_ble_eq_true rfl | omega) (by first | exact Nat.le_of_ble_eq_true rfl | omega) (by first | exact Nat.le_of_ble_eq_true rfl | omega) (fun q90_ hq90_ hb90_ => ?_)
  first | refine x_putF16' (M := mX3_init) (pc := 92) kcX3 q2851 dX3_init_92 ?_ | refine x_putF16 (M := mX3_init) (pc := 92) kcX3 q2851 dX3_init_92 (by exact (xu_n (Ne.symm (fun e_ => by rw [e_, hm] at hq90_; cases hq90_))).trans hm) ?_
  refine x_init1 (j := 16) (e0 := _) hMI hq90_ hm (by decide) rfl hF (fun h hm hMI hF => ?_)
  refine x_aload_n (M := mX3_init) (pc := 95) dX3_init_95 rfl ?_
  refine x_bipush (M := mX3_init) (pc := 96) (v := 16) dX3_init_96 (by decide) ?_
  refine x_newI (M := mX3_init) (pc := 98) (16) dX3_init_98 (by first | rfl | decide) (by first | exact Nat.le_of_ble_eq_true rfl | omega) (by first | exact Nat.le_of_ble_eq_true rfl | omega) (by first | exact Nat.le_of_ble_eq_true rfl | omega) (fun q98_ hq98_ hb98_ => ?_)
  first | refine x_putF17' (M := mX3_init) (pc := 100) kcX3 q2852 dX3_init_100 ?_ | refine x_putF17 (M := mX3_init) (pc := 100) kcX3 q2852 dX3_init_100 (by exact (xu_n (Ne.symm (fun e_ => by rw [e_, hm] at hq98_; cases hq98_))).trans hm) ?_
  refine x_init1 (j := 17) (e0 := _) hMI hq98_ hm (by decide) rfl hF (fun h hm hMI hF => ?_)
  refine x_aload_n (M := mX3_init) (pc := 103) dX3_init_103 rfl ?_
  refine x_iconst (M := mX3_init) (pc := 104) (v := 4) dX3_init_104 (by decide) ?_
  refine x_newI (M := mX3_init) (pc := 105) (4) dX3_init_105 (by first | rfl | decide) (by first | exact Nat.le_of_ble_eq_true rfl | omega) (by first | exact Nat.le_of_ble_eq_true rfl | omega) (by first | exact Nat.le_of_ble_eq_true rfl | omega) (fun q105_ hq105_ hb105_ => ?_)
  first | refine x_putF23' (M := mX3_init) (pc := 107) kcX3 q2858 dX3_init_107 ?_ | refine x_putF23 (M := mX3_init) (pc := 107) kcX3 q2858 dX3_init_107 (by exact (xu_n (Ne.symm (fun e_ => by rw [e_, hm] at hq105_; cases hq105_))).trans hm) ?_
  refine x_init1 (j := 23) (e0 := _) hMI hq105_ hm (by decide) rfl hF (fun h hm hMI hF => ?_)
  refine x_aload_n (M := mX3_init) (pc := 110) dX3_init_110 rfl ?_
  refine x_bipush (M := mX3_init) (pc := 111) (v := 16) dX3_init_111 (by decide) ?_
  refine x_newI (M := mX3_init) (pc := 113) (16) dX3_init_113 (by first | rfl | decide) (by first | exact Nat.le_of_ble_eq_true rfl | omega) (by first | exact Nat.le_of_ble_eq_true rfl | omega) (by first | exact Nat.le_of_ble_eq_true rfl | omega) (fun q113_ hq113_ hb113_ => ?_)
  first | refine x_putF27' (M := mX3_init) (pc := 115) kcX3 q2862 dX3_init_115 ?_ | refine x_putF27 (M := mX3_init) (pc := 115) kcX3 q2862 dX3_init_115 (by exact (xu_n (Ne.symm (fun e_ => by rw [e_, hm] at hq113_; cases hq113_))).trans hm) ?_
  refine x_init1 (j := 27) (e0 := _) hMI hq113_ hm (by decide) rfl hF (fun h hm hMI hF => ?_)
  refine x_aload_n (M := mX3_init) (pc := 118) dX3_init_118 rfl ?_
  refine x_bipush (M := mX3_init) (pc := 119) (v := 32) dX3_init_119 (by decide) ?_
  refine x_newI (M := mX3_init) (pc := 121) (32) dX3_init_121 (by first | rfl | decide) (by first | exact Nat.le_of_ble_eq_true rfl | omega) (by first | exact Nat.le_of_ble_eq_true rfl | omega) (by first | exact Nat.le_of_ble_eq_true rfl | omega) (fun q121_ hq121_ hb121_ => ?_)
  first | refine x_putF29' (M := mX3_init) (pc := 123) kcX3 q2864 dX3_init_123 ?_ | refine x_putF29 (M := mX3_init) (pc := 123) kcX3 q2864 dX3_init_123 (by exact (xu_n (Ne.symm (fun e_ => by rw [e_, hm] at hq121_; cases hq121_))).trans hm) ?_
  refine x_init1 (j := 29) (e0 := _) hMI hq121_ hm (by decide) rfl hF (fun h hm hMI hF => ?_)
  refine x_aload_n (M := mX3_init) (pc := 126) dX3_init_126 rfl ?_
  refine x_bipush (M := mX3_init) (pc := 127) (v := 12) dX3_init_127 (by decide) ?_
  refine x_newI (M := mX3_init) (pc := 129) (12) dX3_init_129 (by first | rfl | decide) (by first | exact Nat.le_of_ble_eq_true rfl | omega) (by first | exact Nat.le_of_ble_eq_true rfl | omega) (by first | exact Nat.le_of_ble_eq_true rfl | omega) (fun q129_ hq129_ hb129_ => ?_)
  first | refine x_putF30' (M := mX3_init) (pc := 131) kcX3 q2865 dX3_init_131 ?_ | refine x_putF30 (M := mX3_init) (pc := 131) kcX3 q2865 dX3_init_131 (by exact (xu_n (Ne.symm (fun e_ => by rw [e_, hm] at hq129_; cases hq129_))).trans hm) ?_
  refine x_init1 (j := 30) (e0 := _) hMI hq129_ hm (by decide) rfl hF (fun h hm hMI hF => ?_)
  have hMI := hMI.perm (E := mArr) (by decide)
  have hM := MR.of (A := _) hm hMI
  have hxl := hF
  have hA := hMI.2.2.2
  clear hF hMI
  refine x_arg (A := _) (h1 := h) hM hA MF.rf (fun A hM hA hF => ?_)
  refine x_aload_n (M := mX3_init) (pc := 134) dX3_init_134 rfl ?_
  refine x_get (M := mX3_init) (pc := 135) kcX3 0 rfl q2835 dX3_init_135 hM.1 rfl ?_
  refine x_iconst (M := mX3_init) (pc := 138) (v := nI 0) dX3_init_138 (by decide) ?_
  refine x_iconst (M := mX3_init) (pc := 139) (v := nI 2) dX3_init_139 (by decide) ?_
  refine xm_iast (M := mX3_init) (pc := 140) hM hF dX3_init_140 (by decide) (by first | decide | (simp only [mSz] <;> omega)) (fun h hM hF => ?_)
  refine x_aload_n (M := mX3_init) (pc := 141) dX3_init_141 rfl ?_
  refine x_get (M := mX3_init) (pc := 142) kcX3 0 rfl q2835 dX3_init_142 hM.1 rfl ?_
  refine x_iconst (M := mX3_init) (pc := 145) (v := nI 1) dX3_init_145 (by decide) ?_
  refine x_iconst (M := mX3_init) (pc := 146) (v := nI 4) dX3_init_146 (by decide) ?_
  refine xm_iast (M := mX3_init) (pc := 147) hM hF dX3_init_147 (by decide) (by first | decide | (simp only [mSz] <;> omega)) (fun h hM hF => ?_)
  refine x_aload_n (M := mX3_init) (pc := 148) dX3_init_148 rfl ?_
  refine x_get (M := mX3_init) (pc := 149) kcX3 0 rfl q2835 dX3_init_149 hM.1 rfl ?_
  refine x_bipush (M := mX3_init) (pc := 152) (v := nI 10) dX3_init_152 (by decide) ?_
  refine x_iconst (M := mX3_init) (pc := 154) (v := nI 4) dX3_init_154 (by decide) ?_
  refine xm_iast (M := mX3_init) (pc := 155) hM hF dX3_init_155 (by decide) (by first | decide | (simp only [mSz] <;> omega)) (fun h hM hF => ?_)
  refine x_aload_n (M := mX3_init) (pc := 156) dX3_init_156 rfl ?_
  refine x_get (M := mX3_init) (pc := 157) kcX3 0 rfl q2835 dX3_init_157 hM.1 rfl ?_
  refine x_bipush (M := mX3_init) (pc := 160) (v := nI 11) dX3_init_160 (by decide) ?_
  refine x_iconst (M := mX3_init) (pc := 162) (v := nI 5) dX3_init_162 (by decide) ?_
  refine xm_iast (M := mX3_init) (pc := 163) hM hF dX3_init_163 (by decide) (by first | decide | (simp only [mSz] <;> omega)) (fun h hM hF => ?_)
  refine x_aload_n (M := mX3_init) (pc := 164) dX3_init_164 rfl ?_
  refine x_V0 (M := mX3_init) (pc := 165) (M' := mX3_noPrint) q2831 kVX3_noPrint dX3_init_165 (m_noPrint (d - 1) h hM) (hM.is) (fun v_ h hq_ => ?_)
  obtain ⟨v_, I_, B_, wd_, hv_, ⟨e1, e2, e3, e4⟩, hM_, hF_⟩ := hq_
  cases hv_
  subst e1
  rw [e2, e4] at hM_
  refine x_vret (M := mX3_init) (pc := 168) dX3_init_168 rfl (Nat.le_of_ble_eq_true rfl) (Nat.le_of_ble_eq_true rfl) ⟨rfl, A, B_, hM_, ?_, fun a e ha h0a => ?_⟩
  · rw [e3, va_up_s]; unfold s0_; congr 1
  · rw [(hF.tr hF_) a ha (fun j hj e => by rw [e, hA j hj] at h0a; cases h0a)]; exact hxl a e ha h0a
end MODELX

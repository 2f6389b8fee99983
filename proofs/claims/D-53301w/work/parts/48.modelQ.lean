section MODELQ
set_option maxRecDepth 100000
def isCmd (w : Int64) : Bool := decide (w = 20190388 ∨ w = 212356 ∨ w = 719535492 ∨ w = 20456901 ∨ w = 17376724 ∨ w = 3764 ∨ w = 658555269 ∨ w = 474757 ∨ w = 12892339)
variable {g : xG} {l : Launch} {m : Nat} {A : Nat → Nat} {I : Nat → Int32} {B : Nat → Nat → Int32} {wd : Int64}
theorem m_isCommand (h : xH) (w : Int64) (d : Nat) : Ct g l mX3_isCommand d 0 0 [.long w] h (fun o h' => o = .inl (some (.int (bI (isCmd w)))) ∧ h' = h) := by
  refine Ct.of [some (.long w), none] (by decide +kernel) rfl (Nat.le_of_ble_eq_true rfl) rfl rfl ?_
  refine x_lload_n (M := mX3_isCommand) (pc := 0) dX3_isCommand_0 rfl ?_
  refine x_ldc2 (M := mX3_isCommand) (pc := 1) dX3_isCommand_1 q3133 ?_
  refine x_lcmp (M := mX3_isCommand) (pc := 4) dX3_isCommand_4 ?_
  refine x_if_eq (M := mX3_isCommand) (pc := 5) 72 dX3_isCommand_5 (by decide) (fun r_1 => ?_) (fun r_1 => ?_)
  · refine x_iconst (M := mX3_isCommand) (pc := 72) (v := nI 1) dX3_isCommand_72 (by decide) ?_
    refine x_goto (M := mX3_isCommand) (pc := 73) 77 dX3_isCommand_73 (by decide) ?_
    refine x_zret (M := mX3_isCommand) (pc := 77) dX3_isCommand_77 rfl (by first | with_reducible exact xz0 | with_reducible exact xz1 | with_reducible exact bI_01 _ | with_reducible assumption | assumption) (Nat.le_refl 0) (Nat.le_refl 0) ?_
    refine ⟨congrArg Sum.inl ?_, rfl⟩; simp only [lg_eq] at *; first | exact vB0 (by simp [isCmd, *]) | exact vB1 (by simp [isCmd, *])
  · refine x_lload_n (M := mX3_isCommand) (pc := 8) dX3_isCommand_8 rfl ?_
    refine x_ldc2 (M := mX3_isCommand) (pc := 9) dX3_isCommand_9 q3134 ?_
    refine x_lcmp (M := mX3_isCommand) (pc := 12) dX3_isCommand_12 ?_
    refine x_if_eq (M := mX3_isCommand) (pc := 13) 72 dX3_isCommand_13 (by decide) (fun r_2 => ?_) (fun r_2 => ?_)
    · refine x_iconst (M := mX3_isCommand) (pc := 72) (v := nI 1) dX3_isCommand_72 (by decide) ?_
      refine x_goto (M := mX3_isCommand) (pc := 73) 77 dX3_isCommand_73 (by decide) ?_
      refine x_zret (M := mX3_isCommand) (pc := 77) dX3_isCommand_77 rfl (by first | with_reducible exact xz0 | with_reducible exact xz1 | with_reducible exact bI_01 _ | with_reducible assumption | assumption) (Nat.le_refl 0) (Nat.le_refl 0) ?_
      refine ⟨congrArg Sum.inl ?_, rfl⟩; simp only [lg_eq] at *; first | exact vB0 (by simp [isCmd, *]) | exact vB1 (by simp [isCmd, *])
    · refine x_lload_n (M := mX3_isCommand) (pc := 16) dX3_isCommand_16 rfl ?_
      refine x_ldc2 (M := mX3_isCommand) (pc := 17) dX3_isCommand_17 q3135 ?_
      refine x_lcmp (M := mX3_isCommand) (pc := 20) dX3_isCommand_20 ?_
      refine x_if_eq (M := mX3_isCommand) (pc := 21) 72 dX3_isCommand_21 (by decide) (fun r_3 => ?_) (fun r_3 => ?_)
      · refine x_iconst (M := mX3_isCommand) (pc := 72) (v := nI 1) dX3_isCommand_72 (by decide) ?_
        refine x_goto (M := mX3_isCommand) (pc := 73) 77 dX3_isCommand_73 (by decide) ?_
        refine x_zret (M := mX3_isCommand) (pc := 77) dX3_isCommand_77 rfl (by first | with_reducible exact xz0 | with_reducible exact xz1 | with_reducible exact bI_01 _ | with_reducible assumption | assumption) (Nat.le_refl 0) (Nat.le_refl 0) ?_
        refine ⟨congrArg Sum.inl ?_, rfl⟩; simp only [lg_eq] at *; first | exact vB0 (by simp [isCmd, *]) | exact vB1 (by simp [isCmd, *])
      · refine x_lload_n (M := mX3_isCommand) (pc := 24) dX3_isCommand_24 rfl ?_
        refine x_ldc2 (M := mX3_isCommand) (pc := 25) dX3_isCommand_25 q3136 ?_
        refine x_lcmp (M := mX3_isCommand) (pc := 28) dX3_isCommand_28 ?_
        refine x_if_eq (M := mX3_isCommand) (pc := 29) 72 dX3_isCommand_29 (by decide) (fun r_4 => ?_) (fun r_4 => ?_)
        · refine x_iconst (M := mX3_isCommand) (pc := 72) (v := nI 1) dX3_isCommand_72 (by decide) ?_
          refine x_goto (M := mX3_isCommand) (pc := 73) 77 dX3_isCommand_73 (by decide) ?_
          refine x_zret (M := mX3_isCommand) (pc := 77) dX3_isCommand_77 rfl (by first | with_reducible exact xz0 | with_reducible exact xz1 | with_reducible exact bI_01 _ | with_reducible assumption | assumption) (Nat.le_refl 0) (Nat.le_refl 0) ?_
          refine ⟨congrArg Sum.inl ?_, rfl⟩; simp only [lg_eq] at *; first | exact vB0 (by simp [isCmd, *]) | exact vB1 (by simp [isCmd, *])
        · refine x_lload_n (M := mX3_isCommand) (pc := 32) dX3_isCommand_32 rfl ?_
          refine x_ldc2 (M := mX3_isCommand) (pc := 33) dX3_isCommand_33 q3137 ?_
          refine x_lcmp (M := mX3_isCommand) (pc := 36) dX3_isCommand_36 ?_
          refine x_if_eq (M := mX3_isCommand) (pc := 37) 72 dX3_isCommand_37 (by decide) (fun r_5 => ?_) (fun r_5 => ?_)
          · refine x_iconst (M := mX3_isCommand) (pc := 72) (v := nI 1) dX3_isCommand_72 (by decide) ?_
            refine x_goto (M := mX3_isCommand) (pc := 73) 77 dX3_isCommand_73 (by decide) ?_
            refine x_zret (M := mX3_isCommand) (pc := 77) dX3_isCommand_77 rfl (by first | with_reducible exact xz0 | with_reducible exact xz1 | with_reducible exact bI_01 _ | with_reducible assumption | assumption) (Nat.le_refl 0) (Nat.le_refl 0) ?_
            refine ⟨congrArg Sum.inl ?_, rfl⟩; simp only [lg_eq] at *; first | exact vB0 (by simp [isCmd, *]) | exact vB1 (by simp [isCmd, *])
          · refine x_lload_n (M := mX3_isCommand) (pc := 40) dX3_isCommand_40 rfl ?_
            refine x_ldc2 (M := mX3_isCommand) (pc := 41) dX3_isCommand_41 q3138 ?_
            refine x_lcmp (M := mX3_isCommand) (pc := 44) dX3_isCommand_44 ?_
            refine x_if_eq (M := mX3_isCommand) (pc := 45) 72 dX3_isCommand_45 (by decide) (fun r_6 => ?_) (fun r_6 => ?_)
            · refine x_iconst (M := mX3_isCommand) (pc := 72) (v := nI 1) dX3_isCommand_72 (by decide) ?_
              refine x_goto (M := mX3_isCommand) (pc := 73) 77 dX3_isCommand_73 (by decide) ?_
              refine x_zret (M := mX3_isCommand) (pc := 77) dX3_isCommand_77 rfl (by first | with_reducible exact xz0 | with_reducible exact xz1 | with_reducible exact bI_01 _ | with_reducible assumption | assumption) (Nat.le_refl 0) (Nat.le_refl 0) ?_
              refine ⟨congrArg Sum.inl ?_, rfl⟩; simp only [lg_eq] at *; first | exact vB0 (by simp [isCmd, *]) | exact vB1 (by simp [isCmd, *])
            · refine x_lload_n (M := mX3_isCommand) (pc := 48) dX3_isCommand_48 rfl ?_
              refine x_ldc2 (M := mX3_isCommand) (pc := 49) dX3_isCommand_49 q3139 ?_
              refine x_lcmp (M := mX3_isCommand) (pc := 52) dX3_isCommand_52 ?_
              refine x_if_eq (M := mX3_isCommand) (pc := 53) 72 dX3_isCommand_53 (by decide) (fun r_7 => ?_) (fun r_7 => ?_)
              · refine x_iconst (M := mX3_isCommand) (pc := 72) (v := nI 1) dX3_isCommand_72 (by decide) ?_
                refine x_goto (M := mX3_isCommand) (pc := 73) 77 dX3_isCommand_73 (by decide) ?_
                refine x_zret (M := mX3_isCommand) (pc := 77) dX3_isCommand_77 rfl (by first | with_reducible exact xz0 | with_reducible exact xz1 | with_reducible exact bI_01 _ | with_reducible assumption | assumption) (Nat.le_refl 0) (Nat.le_refl 0) ?_
                refine ⟨congrArg Sum.inl ?_, rfl⟩; simp only [lg_eq] at *; first | exact vB0 (by simp [isCmd, *]) | exact vB1 (by simp [isCmd, *])
              · refine x_lload_n (M := mX3_isCommand) (pc := 56) dX3_isCommand_56 rfl ?_
                refine x_ldc2 (M := mX3_isCommand) (pc := 57) dX3_isCommand_57 q3140 ?_
                refine x_lcmp (M := mX3_isCommand) (pc := 60) dX3_isCommand_60 ?_
                refine x_if_eq (M := mX3_isCommand) (pc := 61) 72 dX3_isCommand_61 (by decide) (fun r_8 => ?_) (fun r_8 => ?_)
                · refine x_iconst (M := mX3_isCommand) (pc := 72) (v := nI 1) dX3_isCommand_72 (by decide) ?_
                  refine x_goto (M := mX3_isCommand) (pc := 73) 77 dX3_isCommand_73 (by decide) ?_
                  refine x_zret (M := mX3_isCommand) (pc := 77) dX3_isCommand_77 rfl (by first | with_reducible exact xz0 | with_reducible exact xz1 | with_reducible exact bI_01 _ | with_reducible assumption | assumption) (Nat.le_refl 0) (Nat.le_refl 0) ?_
                  refine ⟨congrArg Sum.inl ?_, rfl⟩; simp only [lg_eq] at *; first | exact vB0 (by simp [isCmd, *]) | exact vB1 (by simp [isCmd, *])
                · refine x_lload_n (M := mX3_isCommand) (pc := 64) dX3_isCommand_64 rfl ?_
                  refine x_ldc2 (M := mX3_isCommand) (pc := 65) dX3_isCommand_65 q3141 ?_
                  refine x_lcmp (M := mX3_isCommand) (pc := 68) dX3_isCommand_68 ?_
                  refine x_if_ne (M := mX3_isCommand) (pc := 69) 76 dX3_isCommand_69 (by decide) (fun r_9 => ?_) (fun r_9 => ?_)
                  · refine x_iconst (M := mX3_isCommand) (pc := 76) (v := nI 0) dX3_isCommand_76 (by decide) ?_
                    refine x_zret (M := mX3_isCommand) (pc := 77) dX3_isCommand_77 rfl (by first | with_reducible exact xz0 | with_reducible exact xz1 | with_reducible exact bI_01 _ | with_reducible assumption | assumption) (Nat.le_refl 0) (Nat.le_refl 0) ?_
                    refine ⟨congrArg Sum.inl ?_, rfl⟩; simp only [lg_eq] at *; first | exact vB0 (by simp [isCmd, *]) | exact vB1 (by simp [isCmd, *])
                  · refine x_iconst (M := mX3_isCommand) (pc := 72) (v := nI 1) dX3_isCommand_72 (by decide) ?_
                    refine x_goto (M := mX3_isCommand) (pc := 73) 77 dX3_isCommand_73 (by decide) ?_
                    refine x_zret (M := mX3_isCommand) (pc := 77) dX3_isCommand_77 rfl (by first | with_reducible exact xz0 | with_reducible exact xz1 | with_reducible exact bI_01 _ | with_reducible assumption | assumption) (Nat.le_refl 0) (Nat.le_refl 0) ?_
                    refine ⟨congrArg Sum.inl ?_, rfl⟩; simp only [lg_eq] at *; first | exact vB0 (by simp [isCmd, *]) | exact vB1 (by simp [isCmd, *])
end MODELQ

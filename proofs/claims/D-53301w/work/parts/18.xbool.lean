/-! booleans on the stack; sums of rows -/
section XBOOL
def bI (b : Bool) : Int32 := if b then 1 else 0
theorem bI_t : bI true = 1 := rfl
theorem bI_f : bI false = 0 := rfl
theorem bI_01 (b : Bool) : bI b = 0 ∨ bI b = 1 := by cases b; exact Or.inl rfl; exact Or.inr rfl
theorem bI_d {P : Prop} [Decidable P] (h : P) : (1 : Int32) = bI (decide P) := by simp [bI, h]
theorem bI_nd {P : Prop} [Decidable P] (h : ¬ P) : (0 : Int32) = bI (decide P) := by simp [bI, h]
theorem bI_nI (b : Bool) : bI b = nI b.toNat := by cases b <;> rfl
theorem bI_inj {a b : Bool} : bI a = bI b ↔ a = b := by cases a <;> cases b <;> decide
theorem lg_lt (x y : Int64) : lg_cmp x y < 0 ↔ x < y := by
  unfold lg_cmp
  by_cases h1 : x > y
  · rw [if_pos h1]
    constructor
    · intro h; exact absurd h (by decide)
    · intro h; exact absurd h (by rw [Int64.not_lt]; exact Int64.le_of_lt h1)
  · rw [if_neg h1]
    by_cases h2 : x = y
    · rw [if_pos h2]; subst h2
      constructor
      · intro h; exact absurd h (by decide)
      · intro h; exact (Int64.lt_irrefl h).elim
    · rw [if_neg h2]
      constructor
      · intro _
        have h3 : x ≤ y := by rw [← Int64.not_lt]; exact h1
        rcases Int64.lt_or_eq_of_le h3 with h | h
        · exact h
        · exact absurd h h2
      · intro _; decide
theorem lg_gt (x y : Int64) : 0 < lg_cmp x y ↔ y < x := by
  unfold lg_cmp
  by_cases h1 : x > y
  · rw [if_pos h1]; exact ⟨fun _ => h1, fun _ => by decide⟩
  · rw [if_neg h1]
    by_cases h2 : x = y
    · rw [if_pos h2]; exact ⟨fun h => absurd h (by decide), fun h => absurd h h1⟩
    · rw [if_neg h2]; exact ⟨fun h => absurd h (by decide), fun h => absurd h h1⟩
theorem lg_eq (x y : Int64) : lg_cmp x y = 0 ↔ x = y := by
  unfold lg_cmp
  by_cases h1 : x > y
  · rw [if_pos h1]; exact ⟨fun h => absurd h (by decide), fun h => by subst h; exact (Int64.lt_irrefl h1).elim⟩
  · rw [if_neg h1]
    by_cases h2 : x = y
    · rw [if_pos h2]; exact ⟨fun _ => h2, fun _ => rfl⟩
    · rw [if_neg h2]; exact ⟨fun h => absurd h (by decide), fun h => absurd h h2⟩
variable {g : xG} {l : Launch} {M : xM} {d mc ms : Nat} {Q : xO → xH → Prop} {pc : Nat} {L : List (Option Value)} {st : List Value} {h : xH} {uc us : Nat}
theorem x_ifB_eq {b : Bool} {off : Int} (tgt : Nat) (hd : decode M.2.1 pc = .ok (.ifCond .eq off, 3)) (ht : (pc : Int) + off = (tgt : Int)) (kt : b = false → X g l M d mc ms Q tgt L st h uc us) (kf : b = true → X g l M d mc ms Q (pc + 3) L st h uc us) : X g l M d mc ms Q pc L (.int (bI b) :: st) h uc us :=
  x_if_eq tgt hd ht (fun q => kt (by cases b; rfl; exact absurd q (by decide))) (fun q => kf (by cases b; exact absurd rfl q; rfl))
theorem x_ifB_ne {b : Bool} {off : Int} (tgt : Nat) (hd : decode M.2.1 pc = .ok (.ifCond .ne off, 3)) (ht : (pc : Int) + off = (tgt : Int)) (kt : b = true → X g l M d mc ms Q tgt L st h uc us) (kf : b = false → X g l M d mc ms Q (pc + 3) L st h uc us) : X g l M d mc ms Q pc L (.int (bI b) :: st) h uc us :=
  x_if_ne tgt hd ht (fun q => kt (by cases b; exact absurd rfl q; rfl)) (fun q => kf (by cases b; rfl; exact absurd q (by decide)))
/-- both branches come to pcJ with one more value on the stack -/
theorem x_join (pcJ : Nat) (Rr : Int32 → Prop) (hJ : ∀ v, Rr v → X g l M d mc ms Q pcJ L (.int v :: st) h uc us) (hK : (∀ v, Rr v → X g l M d mc ms Q pcJ L (.int v :: st) h uc us) → X g l M d mc ms Q pc L st h uc us) : X g l M d mc ms Q pc L st h uc us := hK hJ
/-- a boolean is made: 1 or 0 -/
theorem x_joinB (pcJ : Nat) (b : Bool) (hK : (∀ b', b' = b → X g l M d mc ms Q pcJ L (.int (bI b') :: st) h uc us) → X g l M d mc ms Q pc L st h uc us) (hJ : X g l M d mc ms Q pcJ L (.int (bI b) :: st) h uc us) : X g l M d mc ms Q pc L st h uc us := hK (fun b' e => by rw [e]; exact hJ)
theorem x_joinV (pcJ : Nat) (w : Int32) (hK : (∀ v, v = w → X g l M d mc ms Q pcJ L (.int v :: st) h uc us) → X g l M d mc ms Q pc L st h uc us) (hJ : X g l M d mc ms Q pcJ L (.int w :: st) h uc us) : X g l M d mc ms Q pc L st h uc us := hK (fun v e => by rw [e]; exact hJ)
theorem toI64_le {x y : Int32} : x.toInt64 ≤ y.toInt64 ↔ x ≤ y := by rw [Int64.le_iff_toInt_le, Int32.le_iff_toInt_le, Int32.toInt_toInt64, Int32.toInt_toInt64]
theorem toI64_lt {x y : Int32} : x.toInt64 < y.toInt64 ↔ x < y := by rw [Int64.lt_iff_toInt_lt, Int32.lt_iff_toInt_lt, Int32.toInt_toInt64, Int32.toInt_toInt64]

theorem rI1 {P : Prop} [Decidable P] (h : P) : nI 1 = bI (decide P) := bI_d h
theorem rI0 {P : Prop} [Decidable P] (h : ¬ P) : nI 0 = bI (decide P) := bI_nd h
theorem rV1 {P : Prop} [Decidable P] (h : P) : some (Value.int (nI 1)) = some (.int (bI (decide P))) := by rw [rI1 h]
theorem rV0 {P : Prop} [Decidable P] (h : ¬ P) : some (Value.int (nI 0)) = some (.int (bI (decide P))) := by rw [rI0 h]

theorem vB1 {b : Bool} (h : b = true) : some (Value.int (nI 1)) = some (.int (bI b)) := by subst h; rfl
theorem vB0 {b : Bool} (h : b = false) : some (Value.int (nI 0)) = some (.int (bI b)) := by subst h; rfl
theorem oI1 : Int32.ofInt 1 = nI 1 := rfl
theorem xz0 : nI 0 = 0 ∨ nI 0 = 1 := Or.inl rfl
theorem xz1 : nI 1 = 0 ∨ nI 1 = 1 := Or.inr rfl
end XBOOL

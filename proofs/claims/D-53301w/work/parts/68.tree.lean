/-! binary trees of cells, with their contexts -/
section TREE
abbrev Tre : Type := Std.DTreeMap.Internal.Impl Nat (fun _ => Unit)
abbrev tn (n : Nat) (l r : Tre) : Tre := .inner 0 n () l r
abbrev tl : Tre := .leaf
def tRt : Tre → Option Nat
  | .leaf => none
  | .inner _ n _ _ _ => some n
def tIo : Tre → List Nat
  | .leaf => []
  | .inner _ n _ l r => tIo l ++ n :: tIo r
def tSh (L R P : Nat → Option Nat) : Tre → Option Nat → Prop
  | .leaf, _ => True
  | .inner _ n _ l r, p => P n = p ∧ L n = tRt l ∧ R n = tRt r ∧ tSh L R P l (some n) ∧ tSh L R P r (some n)
abbrev Cx : Type := List (Bool × Nat × Tre)
def tPl : Cx → Tre → Tre
  | [], t => t
  | (false, p, s) :: c, t => tPl c (tn p t s)
  | (true, p, s) :: c, t => tPl c (tn p s t)
def tPar : Cx → Option Nat
  | [] => none
  | (_, p, _) :: _ => some p
def cIoL : Cx → List Nat
  | [] => []
  | (false, _, _) :: c => cIoL c
  | (true, p, s) :: c => cIoL c ++ (tIo s ++ [p])
def cIoR : Cx → List Nat
  | [] => []
  | (false, p, s) :: c => p :: (tIo s ++ cIoR c)
  | (true, _, _) :: c => cIoR c
def cRt : Cx → Option Nat → Option Nat
  | [], o => o
  | (_, p, _) :: c, _ => cRt c (some p)
def cSh (L R P : Nat → Option Nat) : Cx → Option Nat → Prop
  | [], _ => True
  | (b, p, s) :: c, o => P p = tPar c ∧ (if b then R p = o ∧ L p = tRt s else L p = o ∧ R p = tRt s) ∧ tSh L R P s (some p) ∧ cSh L R P c (some p)
theorem tIo_pl : ∀ (c : Cx) (t : Tre), tIo (tPl c t) = cIoL c ++ (tIo t ++ cIoR c)
  | [], t => by simp [tPl, cIoL, cIoR]
  | (false, p, s) :: c, t => by rw [tPl, tIo_pl c]; simp [tIo, cIoL, cIoR]
  | (true, p, s) :: c, t => by rw [tPl, tIo_pl c]; simp [tIo, cIoL, cIoR]
theorem tRt_pl : ∀ (c : Cx) (t : Tre), tRt (tPl c t) = cRt c (tRt t)
  | [], t => rfl
  | (false, p, s) :: c, t => by rw [tPl, tRt_pl c]; rfl
  | (true, p, s) :: c, t => by rw [tPl, tRt_pl c]; rfl
theorem tSh_pl {L R P : Nat → Option Nat} : ∀ (c : Cx) (t : Tre), tSh L R P (tPl c t) none ↔ cSh L R P c (tRt t) ∧ tSh L R P t (tPar c)
  | [], t => by simp [tPl, cSh, tPar]
  | (false, p, s) :: c, t => by
    rw [tPl, tSh_pl c]; simp only [tSh, cSh, tPar, tRt]
    constructor
    · rintro ⟨h1, h2, h3, h4, h5, h6⟩; exact ⟨⟨h2, by simpa using ⟨h3, h4⟩, h6, h1⟩, h5⟩
    · rintro ⟨⟨h1, h2, h3, h4⟩, h5⟩; simp at h2; exact ⟨h4, h1, h2.1, h2.2, h5, h3⟩
  | (true, p, s) :: c, t => by
    rw [tPl, tSh_pl c]; simp only [tSh, cSh, tPar, tRt]
    constructor
    · rintro ⟨h1, h2, h3, h4, h5, h6⟩; exact ⟨⟨h2, by simpa using ⟨h4, h3⟩, h5, h1⟩, h6⟩
    · rintro ⟨⟨h1, h2, h3, h4⟩, h5⟩; simp at h2; exact ⟨h4, h1, h2.2, h2.1, h3, h5⟩
theorem tSh_ext {L R P L' R' P' : Nat → Option Nat} : ∀ (t : Tre) (p : Option Nat), (∀ n ∈ tIo t, L' n = L n ∧ R' n = R n ∧ P' n = P n) → tSh L R P t p → tSh L' R' P' t p
  | .leaf, _, _, _ => trivial
  | .inner _ n _ l r, p, h, hs => by
    have hn := h n (by simp [tIo])
    exact ⟨hn.2.2.trans hs.1, hn.1.trans hs.2.1, hn.2.1.trans hs.2.2.1, tSh_ext l _ (fun m hm => h m (by simp [tIo, hm])) hs.2.2.2.1, tSh_ext r _ (fun m hm => h m (by simp [tIo, hm])) hs.2.2.2.2⟩
/-- a tree gets another parent -/
theorem tSh_par {L R P L' R' P' : Nat → Option Nat} (t : Tre) (p p' : Option Nat) (h : ∀ n ∈ tIo t, L' n = L n ∧ R' n = R n ∧ (tRt t ≠ some n → P' n = P n)) (hr : ∀ n, tRt t = some n → P' n = p') (nd : (tIo t).Nodup) (hs : tSh L R P t p) : tSh L' R' P' t p' := by
  cases t with
  | leaf => trivial
  | inner s n v l r =>
    have hn := h n (by simp [tIo])
    simp only [tIo] at nd
    refine ⟨hr n rfl, hn.1.trans hs.2.1, hn.2.1.trans hs.2.2.1, tSh_ext l _ (fun m hm => ?_) hs.2.2.2.1, tSh_ext r _ (fun m hm => ?_) hs.2.2.2.2⟩
    · have := h m (by simp [tIo, hm])
      exact ⟨this.1, this.2.1, this.2.2 (by simp only [tRt]; intro e; cases e; grind)⟩
    · have := h m (by simp [tIo, hm])
      exact ⟨this.1, this.2.1, this.2.2 (by simp only [tRt]; intro e; cases e; grind)⟩
theorem cSh_ext {L R P L' R' P' : Nat → Option Nat} : ∀ (c : Cx) (o : Option Nat), (∀ n, n ∈ cIoL c ∨ n ∈ cIoR c → L' n = L n ∧ R' n = R n ∧ P' n = P n) → cSh L R P c o → cSh L' R' P' c o
  | [], _, _, _ => trivial
  | (b, p, s) :: c, o, h, hs => by
    have hp := h p (by cases b <;> simp [cIoL, cIoR])
    refine ⟨hp.2.2.trans hs.1, ?_, tSh_ext s _ (fun m hm => h m (by cases b <;> simp [cIoL, cIoR, hm])) hs.2.2.1, cSh_ext c _ (fun m hm => h m (by cases b <;> (simp [cIoL, cIoR]; grind))) hs.2.2.2⟩
    have := hs.2.1
    cases b <;> simp at this ⊢ <;> exact ⟨by first | (rw [hp.1]; exact this.1) | (rw [hp.2.1]; exact this.1), by first | (rw [hp.2.1]; exact this.2) | (rw [hp.1]; exact this.2)⟩
/-- the parent's link to the hole is set -/
def cSet (b : Bool) (c : Cx) (L : Nat → Option Nat) (o : Option Nat) : Nat → Option Nat := match c with
  | [] => L
  | (b', q, _) :: _ => if b' = b then va_up L q o else L
def oUp (P : Nat → Option Nat) (n : Option Nat) (v : Option Nat) : Nat → Option Nat := match n with
  | none => P
  | some n => va_up P n v
theorem cSet_n {b : Bool} {c : Cx} {L : Nat → Option Nat} {o : Option Nat} {n : Nat} (h : n ∉ cIoL c ∧ n ∉ cIoR c) : cSet b c L o n = L n := by
  cases c with
  | nil => rfl
  | cons f c =>
    obtain ⟨b', q, s⟩ := f
    have hq : n ≠ q := by
      intro e; subst e
      cases b' <;> simp [cIoL, cIoR] at h
    simp only [cSet]; split
    · simp [va_up, hq]
    · rfl
theorem oUp_n {P : Nat → Option Nat} {m v : Option Nat} {n : Nat} (h : m ≠ some n) : oUp P m v n = P n := by
  cases m with
  | none => rfl
  | some m => have : n ≠ m := fun e => h (by rw [e]); simp [oUp, va_up, this]
theorem oUp_s {P : Nat → Option Nat} {v : Option Nat} {n : Nat} : oUp P (some n) v n = v := by simp [oUp, va_up]
theorem tRt_mem {t : Tre} {n : Nat} (h : tRt t = some n) : n ∈ tIo t := by
  cases t with
  | leaf => cases h
  | inner s m v l r => cases h; simp [tIo]
/-- a context whose hole gets another root: the parent's link is set, all else stays -/
theorem cSh_set {L R P L' R' P' : Nat → Option Nat} (c : Cx) (o o' : Option Nat) (nd : (cIoL c ++ cIoR c).Nodup)
    (h : ∀ n, n ∈ cIoL c ∨ n ∈ cIoR c → L' n = cSet false c L o' n ∧ R' n = cSet true c R o' n ∧ P' n = P n) (hs : cSh L R P c o) : cSh L' R' P' c o' := by
  cases c with
  | nil => trivial
  | cons f c =>
    obtain ⟨b, p, s⟩ := f
    have hp := h p (by cases b <;> simp [cIoL, cIoR])
    have hne : ∀ m, m ∈ tIo s ∨ m ∈ cIoL c ∨ m ∈ cIoR c → m ≠ p := by
      intro m hm e; subst e
      cases b <;> simp [cIoL, cIoR] at nd <;> grind
    have hoth : ∀ m, m ∈ tIo s ∨ m ∈ cIoL c ∨ m ∈ cIoR c → L' m = L m ∧ R' m = R m ∧ P' m = P m := by
      intro m hm
      have h1 := h m (by cases b <;> (simp [cIoL, cIoR]; grind))
      have h2 := hne m hm
      refine ⟨h1.1.trans ?_, h1.2.1.trans ?_, h1.2.2⟩ <;> (simp only [cSet]; split <;> simp [va_up, h2])
    refine ⟨hp.2.2.trans hs.1, ?_, tSh_ext s _ (fun m hm => hoth m (Or.inl hm)) hs.2.2.1, cSh_ext c _ (fun m hm => hoth m (Or.inr hm)) hs.2.2.2⟩
    have h2 := hs.2.1
    cases b
    · simp only [cSet] at hp
      simp at h2 hp ⊢
      exact ⟨by rw [hp.1]; simp [va_up], by rw [hp.2.1]; exact h2.2⟩
    · simp only [cSet] at hp
      simp at h2 hp ⊢
      exact ⟨by rw [hp.2.1]; simp [va_up], by rw [hp.1]; exact h2.2⟩
theorem rotL_sh {L R P : Nat → Option Nat} {c : Cx} {p r : Nat} {a b e : Tre} (h : tSh L R P (tPl c (tn p a (tn r b e))) none) (nd : (tIo (tPl c (tn p a (tn r b e)))).Nodup) :
    tSh (va_up (cSet false c L (some r)) r (some p)) (cSet true c (va_up R p (tRt b)) (some r)) (va_up (va_up (oUp P (tRt b) (some p)) r (tPar c)) p (some r)) (tPl c (tn r (tn p a b) e)) none := by
  rw [tSh_pl] at h ⊢
  rw [tIo_pl] at nd
  simp only [tIo, List.nodup_append, List.nodup_cons, List.mem_append, List.mem_cons] at nd
  obtain ⟨hc, h1, h2, h3, h4, h5, h6, h7, h8, h9⟩ := h
  have hb : ∀ n, tRt b = some n → n ∈ tIo b := fun n => tRt_mem
  have hpr : p ≠ r := by grind
  have hpc : p ∉ cIoL c ∧ p ∉ cIoR c := by grind
  have hrc : r ∉ cIoL c ∧ r ∉ cIoR c := by grind
  have kL : ∀ n, n ≠ r → n ∉ cIoL c ∧ n ∉ cIoR c → va_up (cSet false c L (some r)) r (some p) n = L n := fun n n1 n2 => by
    simp only [va_up, n1, if_false]; exact cSet_n n2
  have kR : ∀ n, n ≠ p → n ∉ cIoL c ∧ n ∉ cIoR c → cSet true c (va_up R p (tRt b)) (some r) n = R n := fun n n1 n2 => by
    rw [cSet_n n2]; simp [va_up, n1]
  have kP : ∀ n, n ≠ p → n ≠ r → tRt b ≠ some n → va_up (va_up (oUp P (tRt b) (some p)) r (tPar c)) p (some r) n = P n := fun n n1 n2 n3 => by
    simp only [va_up, n1, n2, if_false]; exact oUp_n n3
  have hbn : ∀ n, n ∉ tIo b → tRt b ≠ some n := fun n hn z => hn (hb n z)
  have ndc : (cIoL c ++ cIoR c).Nodup := by rw [List.nodup_append]; grind
  have hcn : ∀ n, n ∈ cIoL c ∨ n ∈ cIoR c → n ≠ p ∧ n ≠ r ∧ n ∉ tIo b := by grind
  have han : ∀ n, n ∈ tIo a → n ≠ p ∧ n ≠ r ∧ n ∉ tIo b ∧ n ∉ cIoL c ∧ n ∉ cIoR c := by grind
  have hbn2 : ∀ n, n ∈ tIo b → n ≠ p ∧ n ≠ r ∧ n ∉ cIoL c ∧ n ∉ cIoR c := by grind
  have hen : ∀ n, n ∈ tIo e → n ≠ p ∧ n ≠ r ∧ n ∉ tIo b ∧ n ∉ cIoL c ∧ n ∉ cIoR c := by grind
  have ndb : (tIo b).Nodup := by grind
  clear nd
  refine ⟨cSh_set c _ _ ndc (fun n hn => ⟨?_, ?_, kP n (hcn n hn).1 (hcn n hn).2.1 (hbn n (hcn n hn).2.2)⟩) hc, ?_, ?_, ?_, ⟨?_, ?_, ?_, ?_, ?_⟩, ?_⟩
  · simp only [va_up]; rw [if_neg (hcn n hn).2.1]; rfl
  · have := (hcn n hn).1
    cases c with
    | nil => simp [cIoL, cIoR] at hn
    | cons f c =>
      obtain ⟨b', q, s⟩ := f
      cases b' <;> simp [cSet, va_up, this] <;> rfl
  · simp [va_up, Ne.symm hpr]
  · simp [va_up, tRt]
  · rw [kR r (Ne.symm hpr) hrc]; exact h7
  · simp [va_up]
  · rw [kL p hpr hpc]; exact h2
  · rw [cSet_n hpc]; simp [va_up]
  · exact tSh_ext a _ (fun n hn => ⟨kL n (han n hn).2.1 (han n hn).2.2.2, kR n (han n hn).1 (han n hn).2.2.2, kP n (han n hn).1 (han n hn).2.1 (hbn n (han n hn).2.2.1)⟩) h4
  · exact tSh_par b _ _ (fun n hn => ⟨kL n (hbn2 n hn).2.1 (hbn2 n hn).2.2, kR n (hbn2 n hn).1 (hbn2 n hn).2.2, fun z => kP n (hbn2 n hn).1 (hbn2 n hn).2.1 z⟩) (fun n hn => by
      have := hbn2 n (hb n hn)
      simp only [va_up, this.1, this.2.1, if_false]; rw [hn]; exact oUp_s) ndb h8
  · exact tSh_ext e _ (fun n hn => ⟨kL n (hen n hn).2.1 (hen n hn).2.2.2, kR n (hen n hn).1 (hen n hn).2.2.2, kP n (hen n hn).1 (hen n hn).2.1 (hbn n (hen n hn).2.2.1)⟩) h9
theorem rotL_io (c : Cx) (p r : Nat) (a b e : Tre) : tIo (tPl c (tn r (tn p a b) e)) = tIo (tPl c (tn p a (tn r b e))) := by
  rw [tIo_pl, tIo_pl]; simp [tIo]
theorem rotR_sh {L R P : Nat → Option Nat} {c : Cx} {p r : Nat} {a b e : Tre} (h : tSh L R P (tPl c (tn p (tn r e b) a)) none) (nd : (tIo (tPl c (tn p (tn r e b) a))).Nodup) :
    tSh (cSet false c (va_up L p (tRt b)) (some r)) (va_up (cSet true c R (some r)) r (some p)) (va_up (va_up (oUp P (tRt b) (some p)) r (tPar c)) p (some r)) (tPl c (tn r e (tn p b a))) none := by
  rw [tSh_pl] at h ⊢
  rw [tIo_pl] at nd
  simp only [tIo, List.nodup_append, List.nodup_cons, List.mem_append, List.mem_cons] at nd
  obtain ⟨hc, h1, h2, h3, ⟨h5, h7, h6, h9, h8⟩, h4⟩ := h
  have hb : ∀ n, tRt b = some n → n ∈ tIo b := fun n => tRt_mem
  have hpr : p ≠ r := by grind
  have hpc : p ∉ cIoL c ∧ p ∉ cIoR c := by grind
  have hrc : r ∉ cIoL c ∧ r ∉ cIoR c := by grind
  have kR : ∀ n, n ≠ r → n ∉ cIoL c ∧ n ∉ cIoR c → va_up (cSet true c R (some r)) r (some p) n = R n := fun n n1 n2 => by
    simp only [va_up, n1, if_false]; exact cSet_n n2
  have kL : ∀ n, n ≠ p → n ∉ cIoL c ∧ n ∉ cIoR c → cSet false c (va_up L p (tRt b)) (some r) n = L n := fun n n1 n2 => by
    rw [cSet_n n2]; simp [va_up, n1]
  have kP : ∀ n, n ≠ p → n ≠ r → tRt b ≠ some n → va_up (va_up (oUp P (tRt b) (some p)) r (tPar c)) p (some r) n = P n := fun n n1 n2 n3 => by
    simp only [va_up, n1, n2, if_false]; exact oUp_n n3
  have hbn : ∀ n, n ∉ tIo b → tRt b ≠ some n := fun n hn z => hn (hb n z)
  have ndc : (cIoL c ++ cIoR c).Nodup := by rw [List.nodup_append]; grind
  have hcn : ∀ n, n ∈ cIoL c ∨ n ∈ cIoR c → n ≠ p ∧ n ≠ r ∧ n ∉ tIo b := by grind
  have han : ∀ n, n ∈ tIo a → n ≠ p ∧ n ≠ r ∧ n ∉ tIo b ∧ n ∉ cIoL c ∧ n ∉ cIoR c := by grind
  have hbn2 : ∀ n, n ∈ tIo b → n ≠ p ∧ n ≠ r ∧ n ∉ cIoL c ∧ n ∉ cIoR c := by grind
  have hen : ∀ n, n ∈ tIo e → n ≠ p ∧ n ≠ r ∧ n ∉ tIo b ∧ n ∉ cIoL c ∧ n ∉ cIoR c := by grind
  have ndb : (tIo b).Nodup := by grind
  clear nd
  refine ⟨cSh_set c _ _ ndc (fun n hn => ⟨?_, ?_, kP n (hcn n hn).1 (hcn n hn).2.1 (hbn n (hcn n hn).2.2)⟩) hc, ?_, ?_, ?_, ?_, ?_, ?_, ?_, ?_, ?_⟩
  · have := (hcn n hn).1
    cases c with
    | nil => simp [cIoL, cIoR] at hn
    | cons f c =>
      obtain ⟨b', q, s⟩ := f
      cases b' <;> simp [cSet, va_up, this] <;> rfl
  · simp only [va_up]; rw [if_neg (hcn n hn).2.1]; rfl
  · simp [va_up, Ne.symm hpr]
  · rw [kL r (Ne.symm hpr) hrc]; exact h7
  · simp [va_up, tRt]
  · exact tSh_ext e _ (fun n hn => ⟨kL n (hen n hn).1 (hen n hn).2.2.2, kR n (hen n hn).2.1 (hen n hn).2.2.2, kP n (hen n hn).1 (hen n hn).2.1 (hbn n (hen n hn).2.2.1)⟩) h9
  · simp [va_up]
  · rw [cSet_n hpc]; simp [va_up]
  · rw [kR p hpr hpc]; exact h3
  · exact tSh_par b _ _ (fun n hn => ⟨kL n (hbn2 n hn).1 (hbn2 n hn).2.2, kR n (hbn2 n hn).2.1 (hbn2 n hn).2.2, fun z => kP n (hbn2 n hn).1 (hbn2 n hn).2.1 z⟩) (fun n hn => by
      have := hbn2 n (hb n hn)
      simp only [va_up, this.1, this.2.1, if_false]; rw [hn]; exact oUp_s) ndb h8
  · exact tSh_ext a _ (fun n hn => ⟨kL n (han n hn).1 (han n hn).2.2.2, kR n (han n hn).2.1 (han n hn).2.2.2, kP n (han n hn).1 (han n hn).2.1 (hbn n (han n hn).2.2.1)⟩) h4
theorem rotR_io (c : Cx) (p r : Nat) (a b e : Tre) : tIo (tPl c (tn r e (tn p b a))) = tIo (tPl c (tn p (tn r e b) a)) := by
  rw [tIo_pl, tIo_pl]; simp [tIo]
end TREE

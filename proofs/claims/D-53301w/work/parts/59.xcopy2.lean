section XCOPY2
set_option maxRecDepth 100000
variable {g : xG} {l : Launch} {M : xM} {d mc ms : Nat} {Q : xO → xH → Prop} {pc : Nat} {L : List (Option Value)} {st : List Value} {h : xH} {uc us : Nat}
/-- System.arraycopy of nothing out of the empty constant -/
theorem x_copyE {a n1 t1 : Nat} {f1 : Nat → Option Nat} {E1 : String} {dp index : Nat} (hl : Cond.methodLink M.1.cls index arraycopyName ∈ lw_all) (hd : decode M.2.1 pc = .ok (.invokestatic index, 3)) (h1 : h a = some (.inl (xdA g t1, n1, .inr (.inr (.inr (.inr f1)))))) (ht1 : (xTys g)[t1]? = some (xdA g t1, .object E1)) (b1 : dp ≤ n1) (hn1 : n1 < 2 ^ 31) (hd1 : 1 ≤ d) (hst : (st.map fun v => v.category).sum ≤ 20)
    (kk : X g l M d mc ms Q (pc + 3) L st (xu h a (.inl (xdA g t1, n1, .inr (.inr (.inr (.inr f1)))))) uc us) : X g l M d mc ms Q pc L (.int (nI 0) :: .int (nI dp) :: .ref a :: .int (nI 0) :: .ref (xca g 0 0) :: st) h uc us := by
  intro p ev s m args below meth c H locs ls hC hL hR hS
  obtain ⟨hx, hb, hml, hr, hlk, hnm, hown, hts, hKs, htab⟩ := hC
  have hC : xCx g M p s m args meth c := ⟨hx, hb, hml, hr, hlk, hnm, hown, hts, hKs, htab⟩
  obtain ⟨hba, hP⟩ := hR a _ h1
  have nn : ∀ k : Nat, k < 2 ^ 31 → (nI k).toInt = (k : Int) := fun k hk => nI_toInt hk
  have es : (nI 0).toNatClampNeg = 0 := nI_clamp (by omega)
  have ed : (nI dp).toNatClampNeg = dp := nI_clamp (by omega)
  intro T hT X
  obtain ⟨scr, hs1, ⟨hs2, k0, hk0, cm0, hkk0⟩, hs3, -, -, -, hs7⟩ := hKs.2.2.2.2.1.2.1
  have hc0 : H[xca g 0 0]? = some scr := by rw [hS.2.1 _ (Array.getElem?_eq_some_iff.mp hs1).1 hs7]; exact hs1
  have hc1 : H[a]? = some (vp_cell (xdA g t1) (n1, .inr (.inr (.inr (.inr f1))))) := hP
  obtain ⟨-, k1, hk1, cm1, hkk1⟩ := (hKs.1.2 t1 _ ht1).1 n1 (fun j => va_rf (f1 j))
  obtain ⟨vm', X', step⟩ := X.arraycopy hx hown (hts _ hl) (hts _ q655) (hts _ q654) (hts _ q105) (src := xca g 0 0) (dst := a) (cs := scr) (cd := vp_cell (xdA g t1) (n1, .inr (.inr (.inr (.inr f1))))) (srcPos := nI 0) (destPos := nI dp) (n := nI 0) (by rw [hT]; exact hc0) (by rw [hT]; exact hc1)
    hs2 (fun _ h => by cases h) hs3 (fun h => by cases h) hk0 hk1 hkk0 hkk1 rfl (nI_nl (by omega)) (nI_nl (by omega)) (nI_nl (by omega))
    (by rw [nn 0 (by omega)]; omega)
    (by rw [nn dp (by omega), nn 0 (by omega)]; show ¬ _ > ((arrV (xdA g t1) n1 (fun j => va_rf (f1 j))).slots.size : Int); rw [arrV_size]; omega)
    (fun vm₁ hal i hi => absurd hi (by rw [es]; omega))
    (g := F0 m pc ls (.int (nI 0) :: .int (nI dp) :: .ref a :: .int (nI 0) :: .ref (xca g 0 0) :: st)) rfl (by rw [hml]; exact hL.1.1) (rest := st) rfl (by rw [hb]; exact hd) hd1 (by show 2 * 0 + _ + _ ≤ 64 * d; have hw : nativeFrameWords "java/lang/System" "arraycopy" 5 ≤ 20 := (by decide); omega)
  have e1 : copied scr (vp_cell (xdA g t1) (n1, .inr (.inr (.inr (.inr f1))))) (nI 0) (nI dp) (nI 0) = vp_cell (xdA g t1) (n1, .inr (.inr (.inr (.inr f1)))) := by
    rw [vp_cell_q]
    have := va_copiedX (fun z => va_rf z) scr (xdA g t1) (n1 := n1) (n0 := 0) (sp := 0) (dp := dp) (n := 0) (fun _ => none) f1 (fun j hj => absurd hj (Nat.not_lt_zero j)) (Nat.le_refl 0)
    unfold copied; rw [es, ed]; refine this.trans ?_
    congr 1
    funext k
    unfold va_cpy; rw [if_neg (by omega)]
  rw [e1] at X' step
  have hlt : a < H.size := (Array.getElem?_eq_some_iff.mp hc1).1
  have hheap : ((T.setVm vm').setCell a (vp_cell (xdA g t1) (n1, .inr (.inr (.inr (.inr f1)))))).heap = H.setIfInBounds a (vp_cell (xdA g t1) (n1, .inr (.inr (.inr (.inr f1))))) := by rw [← hT]; rfl
  have oq : ∀ q : Nat, q ≠ a → (H.setIfInBounds a (vp_cell (xdA g t1) (n1, .inr (.inr (.inr (.inr f1))))))[q]? = H[q]? := fun q hq => by simp [Array.getElem?_setIfInBounds, Ne.symm hq]
  obtain ⟨t, a1, b1⟩ := kk p ev s m args below meth c _ _ ls hC hL (hR.put hba (show (H.setIfInBounds a _)[a]? = some _ by simp [Array.getElem?_setIfInBounds, hlt]) oq) (va_S.puts (ks := []) hS (by simp) oq hba (fun q hq => by
    obtain ⟨z, -, hz⟩ := List.mem_map.mp hq
    rw [← hz]
    exact hba)) _ hheap X'
  exact ⟨t, step t a1, b1⟩
theorem x_copyO {a0 a n0 n1 : Nat} {f f1 : Nat → Option Nat} {sp dp n index : Nat} (hl : Cond.methodLink M.1.cls index arraycopyName ∈ lw_all) (hd : decode M.2.1 pc = .ok (.invokestatic index, 3)) (h0 : xOA g h a0 n0 f) (h1 : h a = some (.inl (xdA g 3, n1, .inr (.inr (.inr (.inr f1)))))) (hel : ∀ i, i < n → ∀ y, f (sp + i) = some y → ∃ C, xIs g h y C ∧ xasg C "java/lang/Object") (b0 : sp + n ≤ n0) (b1 : dp + n ≤ n1) (hn0 : n0 < 2 ^ 31) (hn1 : n1 < 2 ^ 31) (hd1 : 1 ≤ d) (hst : (st.map fun v => v.category).sum ≤ 20)
    (kk : X g l M d mc ms Q (pc + 3) L st (xu h a (.inl (xdA g 3, n1, .inr (.inr (.inr (.inr (va_cpy f f1 sp dp n))))))) uc us) : X g l M d mc ms Q pc L (.int (nI n) :: .int (nI dp) :: .ref a :: .int (nI sp) :: .ref a0 :: st) h uc us := by
  rcases h0 with h0 | ⟨rfl, rfl⟩
  · exact x_copyR (t0 := 3) (t1 := 3) hl hd h0 h1 rfl rfl hel b0 b1 hn0 hn1 hd1 hst kk
  · have e1 : sp = 0 := by omega
    have e2 : n = 0 := by omega
    subst e1; subst e2
    refine x_copyE (t1 := 3) hl hd h1 rfl (by omega) hn1 hd1 hst ?_
    have : va_cpy f f1 0 dp 0 = f1 := by funext k; unfold va_cpy; rw [if_neg (by omega)]
    rw [this] at kk; exact kk
theorem x_alenO {a n : Nat} {f : Nat → Option Nat} (hd : decode M.2.1 pc = .ok (.arraylength, 1)) (ha : xOA g h a n f) (kk : X g l M d mc ms Q (pc + 1) L (.int (nI n) :: st) h uc us) : X g l M d mc ms Q pc L (.ref a :: st) h uc us := by
  rcases ha with ha | ⟨rfl, rfl⟩
  · exact x_alen hd ha (t := 3) rfl kk
  · exact x_alenE hd kk
theorem xu_none {h : xH} {a b : Nat} {e : va_E} (hq : xu h a e b = none) : b ≠ a ∧ h b = none := by
  have hn : b ≠ a := fun q => by rw [q, xu_s] at hq; cases hq
  exact ⟨hn, by rw [xu_n hn] at hq; exact hq⟩
/-- all of h stays -/
def xle (h h' : xH) : Prop := ∀ a e, h a = some e → h' a = some e
theorem xle.rf {h : xH} : xle h h := fun _ _ z => z
theorem xle.tr {h h1 h2 : xH} (a : xle h h1) (b : xle h1 h2) : xle h h2 := fun q e z => b q e (a q e z)
theorem xle.fr {h : xH} {q : Nat} {e : va_E} (hq : h q = none) : xle h (xu h q e) := fun a e z => (xu_n (xu_fresh hq z)).trans z
theorem xle.none {h h' : xH} (hl : xle h h') {q : Nat} (hq : h' q = none) : h q = none := by
  cases hz : h q with
  | none => rfl
  | some z => rw [hl q z hz] at hq; cases hq
theorem xIs.le {h h' : xH} (hl : xle h h') {v : Nat} {C : String} (hv : xIs g h v C) : xIs g h' v C := by
  rcases hv with ⟨ci, fs, r, h1, h2⟩ | hv
  · exact Or.inl ⟨ci, fs, r, hl _ _ h1, h2⟩
  · exact Or.inr hv
/-- all but p and q stay -/
def xle2 (p q : Nat) (h h' : xH) : Prop := ∀ a e, a ≠ p → a ≠ q → h a = some e → h' a = some e
theorem xle.two {h h' : xH} (hl : xle h h') (p q : Nat) : xle2 p q h h' := fun a e _ _ z => hl a e z
theorem xOA.le {h h' : xH} {a n : Nat} {f : Nat → Option Nat} (hl : xle h h') (ha : xOA g h a n f) : xOA g h' a n f := by
  rcases ha with ha | ha
  · exact Or.inl (hl _ _ ha)
  · exact Or.inr ha
end XCOPY2

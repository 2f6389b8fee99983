section XCOPY
set_option maxRecDepth 100000
variable {g : xG} {l : Launch} {M : xM} {d mc ms : Nat} {Q : xO → xH → Prop} {pc : Nat} {L : List (Option Value)} {st : List Value} {h : xH} {uc us : Nat}
theorem va_S.puts {A : Nat → Prop} {H0 H H1 : Heap} {locs : List Loc} {a : Nat} {ks : List Nat} (h : va_S A H0 H locs) (z : H1.size = H.size) (oq : ∀ q : Nat, q ≠ a → H1[q]? = H[q]?) (ha : A a) {ml : List Loc} (hm : ∀ q ∈ ml, A q.1) : va_S A H0 H1 (locs ++ ml) := by
  refine ⟨by rw [z]; exact h.1, fun q h1 h2 => ?_, fun q hq => ?_⟩
  · rw [oq q (fun e => h2 (by rw [e]; exact ha))]
    exact h.2.1 q h1 h2
  · rcases List.mem_append.mp hq with h1 | h1
    · exact h.2.2 q h1
    · exact hm q h1
/-- System.arraycopy between two arrays of one primitive type -/
theorem x_copyP {a0 a n0 n1 t : Nat} {f f1 : Nat → Int32} {ty : FieldType} {sp dp n index : Nat} (hl : Cond.methodLink M.1.cls index arraycopyName ∈ lw_all) (hd : decode M.2.1 pc = .ok (.invokestatic index, 3)) (h0 : h a0 = some (.inl (xdA g t, n0, .inl f))) (h1 : h a = some (.inl (xdA g t, n1, .inl f1))) (ht : (xTys g)[t]? = some (xdA g t, ty)) (hprim : refKind ty = false) (hfit : ∀ i, i < n → fits ty (.int (f (sp + i))) = true) (b0 : sp + n ≤ n0) (b1 : dp + n ≤ n1) (hn0 : n0 < 2 ^ 31) (hn1 : n1 < 2 ^ 31) (hd1 : 1 ≤ d) (hst : (st.map fun v => v.category).sum ≤ 20)
    (kk : X g l M d mc ms Q (pc + 3) L st (xu h a (.inl (xdA g t, n1, .inl (va_cpy f f1 sp dp n)))) uc us) : X g l M d mc ms Q pc L (.int (nI n) :: .int (nI dp) :: .ref a :: .int (nI sp) :: .ref a0 :: st) h uc us := by
  intro p ev s m args below meth c H locs ls hC hL hR hS
  obtain ⟨hx, hb, hml, hr, hlk, hnm, hown, hts, hKs, htab⟩ := hC
  have hC : xCx g M p s m args meth c := ⟨hx, hb, hml, hr, hlk, hnm, hown, hts, hKs, htab⟩
  obtain ⟨hba0, hP0⟩ := hR a0 _ h0
  obtain ⟨hba, hP⟩ := hR a _ h1
  have nn : ∀ k : Nat, k < 2 ^ 31 → (nI k).toInt = (k : Int) := fun k hk => nI_toInt hk
  have es : (nI sp).toNatClampNeg = sp := nI_clamp (by omega)
  have ed : (nI dp).toNatClampNeg = dp := nI_clamp (by omega)
  have en : (nI n).toNatClampNeg = n := nI_clamp (by omega)
  intro T hT X
  have hc0 : H[a0]? = some (vp_cell (xdA g t) (n0, .inl f)) := hP0
  have hc1 : H[a]? = some (vp_cell (xdA g t) (n1, .inl f1)) := hP
  obtain ⟨-, k0, hk0, cm0, hkk0⟩ := (hKs.1.2 t _ ht).1 n0 (fun j => .int (f j))
  obtain ⟨-, k1, hk1, cm1, hkk1⟩ := (hKs.1.2 t _ ht).1 n1 (fun j => .int (f1 j))
  obtain ⟨vm', X', step⟩ := X.arraycopy hx hown (hts _ hl) (hts _ q655) (hts _ q654) (hts _ q105) (src := a0) (dst := a) (cs := vp_cell (xdA g t) (n0, .inl f)) (cd := vp_cell (xdA g t) (n1, .inl f1)) (srcPos := nI sp) (destPos := nI dp) (n := nI n) (by rw [hT]; exact hc0) (by rw [hT]; exact hc1)
    (fun _ h => by cases h) (fun _ h => by cases h) (fun h => by cases h) (fun h => by cases h) hk0 hk1 hkk0 hkk1 (by simp [hprim]) (nI_nl (by omega)) (nI_nl (by omega)) (nI_nl (by omega))
    (by rw [nn sp (by omega), nn n (by omega)]; show ¬ _ > ((arrV (xdA g t) n0 (fun j => .int (f j))).slots.size : Int); rw [arrV_size]; omega)
    (by rw [nn dp (by omega), nn n (by omega)]; show ¬ _ > ((arrV (xdA g t) n1 (fun j => .int (f1 j))).slots.size : Int); rw [arrV_size]; omega)
    (fun vm₁ _ i hi => by
      rw [en] at hi
      have e : (vp_cell (xdA g t) (n0, .inl f)).slots.getD ((nI sp).toNatClampNeg + i) .null = .int (f (sp + i)) := by
        show (arrV (xdA g t) n0 (fun j => .int (f j))).slots.getD _ _ = _
        rw [es, Array.getD_eq_getD_getElem?, arrV_read _ _ (by omega)]
        rfl
      refine ⟨?_, ?_⟩
      · rw [e]
        exact hfit i hi
      · rw [e]
        exact trivial)
    (g := F0 m pc ls (.int (nI n) :: .int (nI dp) :: .ref a :: .int (nI sp) :: .ref a0 :: st)) rfl (by rw [hml]; exact hL.1.1) (rest := st) rfl (by rw [hb]; exact hd) hd1 (by show 2 * 0 + _ + _ ≤ 64 * d; have hw : nativeFrameWords "java/lang/System" "arraycopy" 5 ≤ 20 := (by decide); omega)
  have e1 : copied (vp_cell (xdA g t) (n0, .inl f)) (vp_cell (xdA g t) (n1, .inl f1)) (nI sp) (nI dp) (nI n) = vp_cell (xdA g t) (n1, .inl (va_cpy f f1 sp dp n)) := by
    have := va_copied (fun z => .int z) (xdA g t) (xdA g t) (sp := sp) (dp := dp) (n := n) (n0 := n0) (n1 := n1) f f1 b0
    unfold copied; rw [es, ed, en]; exact this
  rw [e1] at X' step
  have hlt : a < H.size := (Array.getElem?_eq_some_iff.mp hc1).1
  have hheap : ((T.setVm vm').setCell a (vp_cell (xdA g t) (n1, .inl (va_cpy f f1 sp dp n)))).heap = H.setIfInBounds a (vp_cell (xdA g t) (n1, .inl (va_cpy f f1 sp dp n))) := by rw [← hT]; rfl
  have oq : ∀ q : Nat, q ≠ a → (H.setIfInBounds a (vp_cell (xdA g t) (n1, .inl (va_cpy f f1 sp dp n))))[q]? = H[q]? := fun q hq => by simp [Array.getElem?_setIfInBounds, Ne.symm hq]
  obtain ⟨t, a1, b1⟩ := kk p ev s m args below meth c _ _ ls hC hL (hR.put hba (show (H.setIfInBounds a _)[a]? = some _ by simp [Array.getElem?_setIfInBounds, hlt]) oq) (va_S.puts (ks := []) hS (by simp) oq hba (fun q hq => by
    obtain ⟨z, -, hz⟩ := List.mem_map.mp hq
    rw [← hz]
    exact hba)) _ hheap X'
  exact ⟨t, step t a1, b1⟩
/-- System.arraycopy between two arrays of references (maybe one) -/
theorem x_copyR {a0 a n0 n1 t0 t1 : Nat} {f f1 : Nat → Option Nat} {E0 E1 : String} {sp dp n index : Nat} (hl : Cond.methodLink M.1.cls index arraycopyName ∈ lw_all) (hd : decode M.2.1 pc = .ok (.invokestatic index, 3)) (h0 : h a0 = some (.inl (xdA g t0, n0, .inr (.inr (.inr (.inr f)))))) (h1 : h a = some (.inl (xdA g t1, n1, .inr (.inr (.inr (.inr f1)))))) (ht0 : (xTys g)[t0]? = some (xdA g t0, .object E0)) (ht1 : (xTys g)[t1]? = some (xdA g t1, .object E1)) (hel : ∀ i, i < n → ∀ y, f (sp + i) = some y → ∃ C, xIs g h y C ∧ xasg C E1) (b0 : sp + n ≤ n0) (b1 : dp + n ≤ n1) (hn0 : n0 < 2 ^ 31) (hn1 : n1 < 2 ^ 31) (hd1 : 1 ≤ d) (hst : (st.map fun v => v.category).sum ≤ 20)
    (kk : X g l M d mc ms Q (pc + 3) L st (xu h a (.inl (xdA g t1, n1, .inr (.inr (.inr (.inr (va_cpy f f1 sp dp n))))))) uc us) : X g l M d mc ms Q pc L (.int (nI n) :: .int (nI dp) :: .ref a :: .int (nI sp) :: .ref a0 :: st) h uc us := by
  intro p ev s m args below meth c H locs ls hC hL hR hS
  obtain ⟨hx, hb, hml, hr, hlk, hnm, hown, hts, hKs, htab⟩ := hC
  have hC : xCx g M p s m args meth c := ⟨hx, hb, hml, hr, hlk, hnm, hown, hts, hKs, htab⟩
  obtain ⟨hba0, hP0⟩ := hR a0 _ h0
  obtain ⟨hba, hP⟩ := hR a _ h1
  have nn : ∀ k : Nat, k < 2 ^ 31 → (nI k).toInt = (k : Int) := fun k hk => nI_toInt hk
  have es : (nI sp).toNatClampNeg = sp := nI_clamp (by omega)
  have ed : (nI dp).toNatClampNeg = dp := nI_clamp (by omega)
  have en : (nI n).toNatClampNeg = n := nI_clamp (by omega)
  intro T hT X
  have hc0 : H[a0]? = some (vp_cell (xdA g t0) (n0, .inr (.inr (.inr (.inr f))))) := hP0
  have hc1 : H[a]? = some (vp_cell (xdA g t1) (n1, .inr (.inr (.inr (.inr f1))))) := hP
  obtain ⟨-, k0, hk0, cm0, hkk0⟩ := (hKs.1.2 t0 _ ht0).1 n0 (fun j => va_rf (f j))
  obtain ⟨-, k1, hk1, cm1, hkk1⟩ := (hKs.1.2 t1 _ ht1).1 n1 (fun j => va_rf (f1 j))
  obtain ⟨vm', X', step⟩ := X.arraycopy hx hown (hts _ hl) (hts _ q655) (hts _ q654) (hts _ q105) (src := a0) (dst := a) (cs := vp_cell (xdA g t0) (n0, .inr (.inr (.inr (.inr f))))) (cd := vp_cell (xdA g t1) (n1, .inr (.inr (.inr (.inr f1))))) (srcPos := nI sp) (destPos := nI dp) (n := nI n) (by rw [hT]; exact hc0) (by rw [hT]; exact hc1)
    (fun _ h => by cases h) (fun _ h => by cases h) (fun h => by cases h) (fun h => by cases h) hk0 hk1 hkk0 hkk1 rfl (nI_nl (by omega)) (nI_nl (by omega)) (nI_nl (by omega))
    (by rw [nn sp (by omega), nn n (by omega)]; show ¬ _ > ((arrV (xdA g t0) n0 (fun j => va_rf (f j))).slots.size : Int); rw [arrV_size]; omega)
    (by rw [nn dp (by omega), nn n (by omega)]; show ¬ _ > ((arrV (xdA g t1) n1 (fun j => va_rf (f1 j))).slots.size : Int); rw [arrV_size]; omega)
    (fun vm₁ hal i hi => by
      rw [en] at hi
      have e : (vp_cell (xdA g t0) (n0, .inr (.inr (.inr (.inr f))))).slots.getD ((nI sp).toNatClampNeg + i) .null = va_rf (f (sp + i)) := by
        show (arrV (xdA g t0) n0 (fun j => va_rf (f j))).slots.getD _ _ = _
        rw [es, Array.getD_eq_getD_getElem?, arrV_read _ _ (by omega)]
        rfl
      rw [e]
      cases hy : f (sp + i) with
      | none => exact ⟨rfl, trivial⟩
      | some y =>
        obtain ⟨C, hy1, hasg⟩ := hel i hi y hy
        obtain ⟨cellV, g1, g2, g3⟩ := hy1.recv hKs hR hS
        obtain ⟨kA, comp, r1, r2, r3, -⟩ := (hKs.1.2 t1 _ ht1).2
        cases hk1.symm.trans r1
        cases hkk1.symm.trans r2
        obtain ⟨kC, hkC, -⟩ := Vm.findClass_spec g3
        obtain ⟨kE, hkE, -⟩ := Vm.findClass_spec r3
        obtain ⟨kC', hkC', -⟩ := hal.2.2 _ _ hkC
        obtain ⟨kE', hkE', -⟩ := hal.2.2 _ _ hkE
        refine ⟨rfl, cellV, (show T.heap[y]? = some cellV by rw [hT]; exact g1), (fun q h => by rw [h] at g2; cases g2), ⟨kC', hkC'⟩, ?_, ?_⟩
        · exact ⟨kE', hkE'⟩
        · show vm₁.assignable _ _ = true
          rw [hal.assignable]
          rcases hasg with rfl | hca
          · exact vb_asgS _ _ r3 g3
          · exact vb_asgC (hKs.2.1 _ hca rfl) _ _ r3 g3)
    (g := F0 m pc ls (.int (nI n) :: .int (nI dp) :: .ref a :: .int (nI sp) :: .ref a0 :: st)) rfl (by rw [hml]; exact hL.1.1) (rest := st) rfl (by rw [hb]; exact hd) hd1 (by show 2 * 0 + _ + _ ≤ 64 * d; have hw : nativeFrameWords "java/lang/System" "arraycopy" 5 ≤ 20 := (by decide); omega)
  have e1 : copied (vp_cell (xdA g t0) (n0, .inr (.inr (.inr (.inr f))))) (vp_cell (xdA g t1) (n1, .inr (.inr (.inr (.inr f1))))) (nI sp) (nI dp) (nI n) = vp_cell (xdA g t1) (n1, .inr (.inr (.inr (.inr (va_cpy f f1 sp dp n))))) := by
    have := va_copied (fun z => va_rf z) (xdA g t0) (xdA g t1) (sp := sp) (dp := dp) (n := n) (n0 := n0) (n1 := n1) f f1 b0
    rw [vp_cell_q, vp_cell_q, vp_cell_q]
    unfold copied; rw [es, ed, en]; exact this
  rw [e1] at X' step
  have hlt : a < H.size := (Array.getElem?_eq_some_iff.mp hc1).1
  have hheap : ((T.setVm vm').setCell a (vp_cell (xdA g t1) (n1, .inr (.inr (.inr (.inr (va_cpy f f1 sp dp n))))))).heap = H.setIfInBounds a (vp_cell (xdA g t1) (n1, .inr (.inr (.inr (.inr (va_cpy f f1 sp dp n)))))) := by rw [← hT]; rfl
  have oq : ∀ q : Nat, q ≠ a → (H.setIfInBounds a (vp_cell (xdA g t1) (n1, .inr (.inr (.inr (.inr (va_cpy f f1 sp dp n)))))))[q]? = H[q]? := fun q hq => by simp [Array.getElem?_setIfInBounds, Ne.symm hq]
  obtain ⟨t, a1, b1⟩ := kk p ev s m args below meth c _ _ ls hC hL (hR.put hba (show (H.setIfInBounds a _)[a]? = some _ by simp [Array.getElem?_setIfInBounds, hlt]) oq) (va_S.puts (ks := []) hS (by simp) oq hba (fun q hq => by
    obtain ⟨z, -, hz⟩ := List.mem_map.mp hq
    rw [← hz]
    exact hba)) _ hheap X'
  exact ⟨t, step t a1, b1⟩
/-- an Object[]: one of the heap's, or the empty constant -/
def xOA (g : xG) (h : xH) (a n : Nat) (f : Nat → Option Nat) : Prop := h a = some (.inl (xdA g 3, n, .inr (.inr (.inr (.inr f))))) ∨ (a = xca g 0 0 ∧ n = 0)
theorem x_getC {a n : Nat} {f : Nat → Option Nat} {index : Nat} (hl : Cond.methodLink M.1.cls index ⟨"java/lang/Object", "getClass", "()Ljava/lang/Class;"⟩ ∈ lw_all) (hd : decode M.2.1 pc = .ok (.invokevirtual index, 3)) (ha : xOA g h a n f) (hd1 : 1 ≤ d) (hst : (st.map fun v => v.category).sum ≤ 20) (kk : X g l M d mc ms Q (pc + 3) L (.ref (xca g 0 4) :: st) h uc us) : X g l M d mc ms Q pc L (.ref a :: st) h uc us := by
  intro p ev s m args below meth c H locs ls hC hL hR hS
  obtain ⟨hx, hb, hml, hr, hlk, hnm, hown, hts, hKs, htab⟩ := hC
  have hC : xCx g M p s m args meth c := ⟨hx, hb, hml, hr, hlk, hnm, hown, hts, hKs, htab⟩
  obtain ⟨hMi, c0, hc0, cell, k1, k2, k3, k4⟩ := hKs.2.2.2.2.1.2.2.2.2.2.2.2.2
  have hrr : ∃ cell : Cell, H[a]? = some cell ∧ cell.vm.isStatics = false ∧ s.vm.findClass "[Ljava/lang/Object;" = some cell.cls := by
    rcases ha with ha | ⟨rfl, -⟩
    · have hP := (hR a _ ha).2
      exact ⟨_, hP, rfl, va_nmO (hKs.1.2 3 _ rfl).2 rfl⟩
    · exact ⟨cell, by rw [hS.2.1 _ (Array.getElem?_eq_some_iff.mp k1).1 k4]; exact k1, k3, by rw [k2]; exact hc0⟩
  exact va_getC hx hb (by rw [hml]; exact hL.1.1.symm) hown (hts _ hl) (hKs.2.1 _ q3379 rfl) (hts _ q3378) (hts _ q695) (hts _ q743) hMi hrr hd1 (by show _ ≤ 64 * d; omega) hd (kk p ev s m args below meth c H locs ls hC hL hR hS)
theorem x_ldcM {index : Nat} (hl : Cond.classLink M.1.cls index "[Ljava/lang/Object;" ∈ lw_all) (hd : decode M.2.1 pc = .ok (.ldc index, 2)) (kk : X g l M d mc ms Q (pc + 2) L (.ref (xca g 0 4) :: st) h uc us) : X g l M d mc ms Q pc L st h uc us := by
  intro p ev s m args below meth c H locs ls hC hL hR hS
  obtain ⟨hx, hb, hml, hr, hlk, hnm, hown, hts, hKs, htab⟩ := hC
  have hC : xCx g M p s m args meth c := ⟨hx, hb, hml, hr, hlk, hnm, hown, hts, hKs, htab⟩
  exact va_ldcM hx hb hown (hts _ hl) hKs.2.2.2.2.1.2.2.2.2.2.2.2.2.1 hd (kk p ev s m args below meth c H locs ls hC hL hR hS)
theorem x_alenE (hd : decode M.2.1 pc = .ok (.arraylength, 1)) (kk : X g l M d mc ms Q (pc + 1) L (.int (nI 0) :: st) h uc us) : X g l M d mc ms Q pc L (.ref (xca g 0 0) :: st) h uc us := by
  intro p ev s m args below meth c H locs ls hC hL hR hS
  obtain ⟨hx, hb, hml, hr, hlk, hnm, hown, hts, hKs, htab⟩ := hC
  have hC : xCx g M p s m args meth c := ⟨hx, hb, hml, hr, hlk, hnm, hown, hts, hKs, htab⟩
  exact va_tlen hx hb hKs.2.2.2.2.1.2.1 hS (v := nI 0) rfl hd (kk p ev s m args below meth c H locs ls hC hL hR hS)
end XCOPY

/-! more rows of X: constants, throws, a row of arrays, interfaces by bundle -/
section XROW2
set_option maxRecDepth 100000
variable {g : xG} {l : Launch} {M : xM} {d mc ms : Nat} {Q : xO → xH → Prop} {pc : Nat} {L : List (Option Value)} {st : List Value} {h : xH} {uc us : Nat}
/-- a String constant is loaded -/
theorem x_ldcS (i : Nat) {idx : Nat} (hi : i < 15) (hidx : (xStrs.getD i (0, "", [])).1 = idx) (hcls : M.1.cls = xStr) (hd : decode M.2.1 pc = .ok (.ldc idx, 2)) (kk : X g l M d mc ms Q (pc + 2) L (.ref (xca g 2 i) :: st) h uc us) : X g l M d mc ms Q pc L st h uc us := by
  intro p ev s m args below meth c H locs ls hC hL hR hS
  obtain ⟨hx, hb, hml, hr, hlk, hnm, hown, hts, hKs, htab⟩ := hC
  have hC : xCx g M p s m args meth c := ⟨hx, hb, hml, hr, hlk, hnm, hown, hts, hKs, htab⟩
  subst hidx
  exact va_ldcS hx hb (own := xStr) (by rw [← hcls]; exact hown) (hKs.2.2.2.2.1.2.2.2.2.2.2.1 i hi).1 hd (kk p ev s m args below meth c H locs ls hC hL hR hS)
/-- a String constant's fields -/
theorem x_getSV (i : Nat) (hi : i < 15) {idx : Nat} (hl : Cond.fieldLink M.1.cls idx "java/lang/String" "value" "[B" ∈ lw_all) (hd : decode M.2.1 pc = .ok (.getfield idx, 3)) (kk : X g l M d mc ms Q (pc + 3) L (.ref (xca g 3 i) :: st) h uc us) : X g l M d mc ms Q pc L (.ref (xca g 2 i) :: st) h uc us := by
  intro p ev s m args below meth c H locs ls hC hL hR hS
  obtain ⟨hx, hb, hml, hr, hlk, hnm, hown, hts, hKs, htab⟩ := hC
  have hC : xCx g M p s m args meth c := ⟨hx, hb, hml, hr, hlk, hnm, hown, hts, hKs, htab⟩
  exact vk_getf hx hb (hKs.2.2.2.2.1.2.2.2.2.2.1.1 i hi).2.2.1 hS hown (hts _ hl) (fun _ z => z) hd (kk p ev s m args below meth c H locs ls hC hL hR hS)
theorem x_getSC (i : Nat) (hi : i < 15) {idx : Nat} (hl : Cond.fieldLink M.1.cls idx "java/lang/String" "coder" "B" ∈ lw_all) (hd : decode M.2.1 pc = .ok (.getfield idx, 3)) (kk : X g l M d mc ms Q (pc + 3) L (.int (nI 0) :: st) h uc us) : X g l M d mc ms Q pc L (.ref (xca g 2 i) :: st) h uc us := by
  intro p ev s m args below meth c H locs ls hC hL hR hS
  obtain ⟨hx, hb, hml, hr, hlk, hnm, hown, hts, hKs, htab⟩ := hC
  have hC : xCx g M p s m args meth c := ⟨hx, hb, hml, hr, hlk, hnm, hown, hts, hKs, htab⟩
  exact vk_getf hx hb (hKs.2.2.2.2.1.2.2.2.2.2.1.1 i hi).2.1 hS hown (hts _ hl) (fun _ z => z) hd (kk p ev s m args below meth c H locs ls hC hL hR hS)
theorem x_getSH (i : Nat) (hi : i < 15) {idx : Nat} (hl : Cond.fieldLink M.1.cls idx "java/lang/String" "hash" "I" ∈ lw_all) (hd : decode M.2.1 pc = .ok (.getfield idx, 3)) (kk : X g l M d mc ms Q (pc + 3) L (.int (xStrHash.getD i 0) :: st) h uc us) : X g l M d mc ms Q pc L (.ref (xca g 2 i) :: st) h uc us := by
  intro p ev s m args below meth c H locs ls hC hL hR hS
  obtain ⟨hx, hb, hml, hr, hlk, hnm, hown, hts, hKs, htab⟩ := hC
  have hC : xCx g M p s m args meth c := ⟨hx, hb, hml, hr, hlk, hnm, hown, hts, hKs, htab⟩
  exact vk_getf hx hb (hKs.2.2.2.2.1.2.2.2.2.2.2.1 i hi).2 hS hown (hts _ hl) (fun _ z => z) hd (kk p ev s m args below meth c H locs ls hC hL hR hS)
/-- a String constant's bytes -/
theorem x_baldS (i j : Nat) (hi : i < 15) (hj : j < xStrLen.getD i 0) (hn : xStrLen.getD i 0 < 100) (hd : decode M.2.1 pc = .ok (.baload, 1)) (kk : X g l M d mc ms Q (pc + 1) L (.int ((xStrByt.getD i []).getD j 0) :: st) h uc us) : X g l M d mc ms Q pc L (.int (nI j) :: .ref (xca g 3 i) :: st) h uc us := by
  intro p ev s m args below meth c H locs ls hC hL hR hS
  obtain ⟨hx, hb, hml, hr, hlk, hnm, hown, hts, hKs, htab⟩ := hC
  have hC : xCx g M p s m args meth c := ⟨hx, hb, hml, hr, hlk, hnm, hown, hts, hKs, htab⟩
  exact va_tb hx hb (hKs.2.2.2.2.1.2.2.2.2.2.1.1 i hi).2.2.2 hS (nI_in hj (by omega)) (by rw [nI_clamp (by omega)]) hd (kk p ev s m args below meth c H locs ls hC hL hR hS)
theorem x_alenS (i : Nat) (hi : i < 15) (hd : decode M.2.1 pc = .ok (.arraylength, 1)) (kk : X g l M d mc ms Q (pc + 1) L (.int (nI (xStrLen.getD i 0)) :: st) h uc us) : X g l M d mc ms Q pc L (.ref (xca g 3 i) :: st) h uc us := by
  intro p ev s m args below meth c H locs ls hC hL hR hS
  obtain ⟨hx, hb, hml, hr, hlk, hnm, hown, hts, hKs, htab⟩ := hC
  have hC : xCx g M p s m args meth c := ⟨hx, hb, hml, hr, hlk, hnm, hown, hts, hKs, htab⟩
  exact va_tlen hx hb (hKs.2.2.2.2.1.2.2.2.2.2.1.1 i hi).2.2.2 hS (v := nI (xStrLen.getD i 0)) rfl hd (kk p ev s m args below meth c H locs ls hC hL hR hS)
theorem x_instSame {a : Nat} {E : String} {idx : Nat} (hl : Cond.classLink M.1.cls idx E ∈ lw_all) (hd : decode M.2.1 pc = .ok (.instanceof idx, 3)) (hv : xIs g h a E) (kk : X g l M d mc ms Q (pc + 3) L (.int 1 :: st) h uc us) : X g l M d mc ms Q pc L (.ref a :: st) h uc us := by
  intro p ev s m args below meth c H locs ls hC hL hR hS
  obtain ⟨hx, hb, hml, hr, hlk, hnm, hown, hts, hKs, htab⟩ := hC
  have hC : xCx g M p s m args meth c := ⟨hx, hb, hml, hr, hlk, hnm, hown, hts, hKs, htab⟩
  obtain ⟨cell, h1, h2, h3⟩ := hv.recv hKs hR hS
  intro T hT X
  obtain ⟨vm', X', st'⟩ := X.instanceofYes hx hown (hts _ hl) (by rw [hT]; exact h1) h2 h3 (vb_asgS _ _ h3 h3) (g := F0 m pc ls (.ref a :: st)) rfl rfl (by rw [hb]; exact hd)
  obtain ⟨t, a1, b1⟩ := kk p ev s m args below meth c H locs ls hC hL hR hS (T.setVm vm') hT X'
  exact ⟨t, st' t a1, b1⟩
/-- the Reader's words -/
theorem x_aaldW (j : Nat) (hj : j < 9) (hd : decode M.2.1 pc = .ok (.aaload, 1)) (kk : X g l M d mc ms Q (pc + 1) L (.ref (xca g 2 j) :: st) h uc us) : X g l M d mc ms Q pc L (.int (nI j) :: .ref (xca g 0 1) :: st) h uc us := by
  intro p ev s m args below meth c H locs ls hC hL hR hS
  obtain ⟨hx, hb, hml, hr, hlk, hnm, hown, hts, hKs, htab⟩ := hC
  have hC : xCx g M p s m args meth c := ⟨hx, hb, hml, hr, hlk, hnm, hown, hts, hKs, htab⟩
  exact vb_tq hx hb hKs.2.2.2.2.1.2.2.1 hS (nI_in hj (by omega)) (by rw [nI_clamp (by omega)]) hd (kk p ev s m args below meth c H locs ls hC hL hR hS)
theorem x_alenW (hd : decode M.2.1 pc = .ok (.arraylength, 1)) (kk : X g l M d mc ms Q (pc + 1) L (.int (nI 9) :: st) h uc us) : X g l M d mc ms Q pc L (.ref (xca g 0 1) :: st) h uc us := by
  intro p ev s m args below meth c H locs ls hC hL hR hS
  obtain ⟨hx, hb, hml, hr, hlk, hnm, hown, hts, hKs, htab⟩ := hC
  have hC : xCx g M p s m args meth c := ⟨hx, hb, hml, hr, hlk, hnm, hown, hts, hKs, htab⟩
  exact va_tlen hx hb hKs.2.2.2.2.1.2.2.1 hS (v := nI 9) rfl hd (kk p ev s m args below meth c H locs ls hC hL hR hS)
/-- the cache of Integers -/
theorem x_aaldI (j : Nat) (hj : j < 256) (hd : decode M.2.1 pc = .ok (.aaload, 1)) (kk : X g l M d mc ms Q (pc + 1) L (.ref (xca g 1 j) :: st) h uc us) : X g l M d mc ms Q pc L (.int (nI j) :: .ref (xca g 0 2) :: st) h uc us := by
  intro p ev s m args below meth c H locs ls hC hL hR hS
  obtain ⟨hx, hb, hml, hr, hlk, hnm, hown, hts, hKs, htab⟩ := hC
  have hC : xCx g M p s m args meth c := ⟨hx, hb, hml, hr, hlk, hnm, hown, hts, hKs, htab⟩
  exact vb_tq hx hb hKs.2.2.2.2.1.2.2.2.1 hS (nI_in hj (by omega)) (by rw [nI_clamp (by omega)]) hd (kk p ev s m args below meth c H locs ls hC hL hR hS)
/-- an Integer of value v -/
def IV (g : xG) (h : xH) (a : Nat) (v : Int32) : Prop := h a = some (.inr (31, [.int v])) ∨ ∃ k, k < 256 ∧ a = xca g 1 k ∧ v = vb_c k
theorem IV.is {a : Nat} {v : Int32} (hv : IV g h a v) : xIs g h a "java/lang/Integer" := by
  rcases hv with hv | ⟨k, h1, h2, -⟩
  · exact xIs.of kcJ10 hv
  · exact Or.inr (Or.inl ⟨rfl, k, h1, h2⟩)
theorem IV.le {h' : xH} {a : Nat} {v : Int32} (hl : xle h h') (hv : IV g h a v) : IV g h' a v := hv.imp (hl _ _) id
theorem x_getI {a : Nat} {v : Int32} (hv : IV g h a v) {idx : Nat} (hl : Cond.fieldLink M.1.cls idx "java/lang/Integer" "value" "I" ∈ lw_all) (hd : decode M.2.1 pc = .ok (.getfield idx, 3)) (kk : X g l M d mc ms Q (pc + 3) L (.int v :: st) h uc us) : X g l M d mc ms Q pc L (.ref a :: st) h uc us := by
  rcases hv with hv | ⟨k, h1, rfl, rfl⟩
  · exact x_get kcJ10 0 rfl hl hd hv rfl kk
  · intro p ev s m args below meth c H locs ls hC hL hR hS
    obtain ⟨hx, hb, hml, hr, hlk, hnm, hown, hts, hKs, htab⟩ := hC
    have hC : xCx g M p s m args meth c := ⟨hx, hb, hml, hr, hlk, hnm, hown, hts, hKs, htab⟩
    exact va_getX (i := k) (v := fun k => .int (vb_c k)) hx hb hKs.2.2.2.2.1.2.2.2.2.1.2 h1 hS hown (hts _ hl) (fun _ z => z) hd (kk p ev s m args below meth c H locs ls hC hL hR hS)
/-- the script -/
theorem x_ialdX (j : Nat) (hj : j < xca g 0 6) (hn : xca g 0 6 < 2 ^ 31) (hd : decode M.2.1 pc = .ok (.iaload, 1)) (kk : X g l M d mc ms Q (pc + 1) L (.int (xsc g j) :: st) h uc us) : X g l M d mc ms Q pc L (.int (nI j) :: .ref (xca g 0 5) :: st) h uc us := by
  intro p ev s m args below meth c H locs ls hC hL hR hS
  obtain ⟨hx, hb, hml, hr, hlk, hnm, hown, hts, hKs, htab⟩ := hC
  have hC : xCx g M p s m args meth c := ⟨hx, hb, hml, hr, hlk, hnm, hown, hts, hKs, htab⟩
  exact va_ti hx hb hKs.2.2.2.2.1.2.2.2.2.2.2.2.1.1 hS (nI_in hj hn) (by rw [nI_clamp (by omega)]) hd (kk p ev s m args below meth c H locs ls hC hL hR hS)
theorem x_alenX (hd : decode M.2.1 pc = .ok (.arraylength, 1)) (kk : X g l M d mc ms Q (pc + 1) L (.int (nI (xca g 0 6)) :: st) h uc us) : X g l M d mc ms Q pc L (.ref (xca g 0 5) :: st) h uc us := by
  intro p ev s m args below meth c H locs ls hC hL hR hS
  obtain ⟨hx, hb, hml, hr, hlk, hnm, hown, hts, hKs, htab⟩ := hC
  have hC : xCx g M p s m args meth c := ⟨hx, hb, hml, hr, hlk, hnm, hown, hts, hKs, htab⟩
  exact va_tlen hx hb hKs.2.2.2.2.1.2.2.2.2.2.2.2.1.1 hS (v := nI (xca g 0 6)) rfl hd (kk p ev s m args below meth c H locs ls hC hL hR hS)
/-- facts of the constants, at any place of a walk -/
theorem x_cst (kk : (∀ k, k < 3 → xref (xcv g k)) → xca g 0 6 ≤ 384 → (∀ i j, i < 15 → j < 15 → xca g 2 i = xca g 2 j → i = j) → h (xca g 0 0) = none → X g l M d mc ms Q pc L st h uc us) : X g l M d mc ms Q pc L st h uc us := by
  intro p ev s m args below meth c H locs ls hC hL hR hS
  obtain ⟨hx, hb, hml, hr, hlk, hnm, hown, hts, hKs, htab⟩ := hC
  have hC : xCx g M p s m args meth c := ⟨hx, hb, hml, hr, hlk, hnm, hown, hts, hKs, htab⟩
  have hc := hKs.2.2.2.2.1
  refine kk hc.2.2.2.2.2.2.2.1.2.2 hc.2.2.2.2.2.2.2.1.2.1 hc.2.2.2.2.2.1.2 ?_ p ev s m args below meth c H locs ls hC hL hR hS
  cases hq : h (xca g 0 0) with
  | none => rfl
  | some e => exact absurd (hR _ _ hq).1 hc.2.1.out
/-- an object that was made before is thrown: no handler here -/
theorem x_throw {q : Nat} {fs : List Value} (hh : M.2.2.2.2 = []) (hd : decode M.2.1 pc = .ok (.athrow, 1)) (hq : h q = some (.inr (24, fs))) (h1 : uc ≤ mc) (h2 : us ≤ ms) (hQ : Q (.inr q) h) : X g l M d mc ms Q pc L (.ref q :: st) h uc us := by
  intro p ev s m args below meth c H locs ls hC hL hR hS
  obtain ⟨hx, hb, hml, hr, hlk, hnm, hown, hts, hKs, htab⟩ := hC
  obtain ⟨cell, g1, g2, g3⟩ := (xIs.of (g := g) kcX26 hq).recv hKs hR hS
  refine vx_athrow hx hb hd (xx_out (E := RX26) (ce := cell) (fun x hx => ?_) hlk g1 ?_ g3 (fun t ht hv => ⟨⟨h, rfl, hQ, by rw [ht]; exact hR⟩, ?_⟩) hS.2.2 h1 h2)
  · rw [hh] at htab
    cases he : c.exceptionTable.toList with
    | nil => rw [he] at hx; cases hx
    | cons a b => rw [he] at htab; cases htab
  · obtain ⟨r, -, cell', k1, -, k3, -⟩ := (hR q _ hq).2
    cases g1.symm.trans k1
    exact k3
  · refine ⟨?_, fun q' h1 h2 => ?_⟩
    · rw [ht]; exact hS.1
    · rw [ht]; exact hS.2.1 q' h1 h2
/-- a call through an object of a method that may throw: what it throws goes on -/
theorem x_GVt {M' : xM} {d' mc' ms' n : Nat} {Q' : xO → xH → Prop} {idx : Nat} {b : Nat} {As st0 : List Value} (hh : M.2.2.2.2 = []) (hl : Cond.methodLink M.1.cls idx M'.1 ∈ lw_all) (hB : xMV M' n) (hd : decode M.2.1 pc = .ok (.invokevirtual idx, 3)) (hM : Ct g l M' d' mc' ms' (.ref b :: As) h Q') (hv : xIs g h b M'.1.cls) (hst : st0 = As.reverse ++ .ref b :: st) (hn : As.length = n) (hdep : d' + 1 ≤ d) (h1 : uc + mc' ≤ mc) (h2 : us + ms' ≤ ms) (hsum : (st.map fun v => v.category).sum ≤ 8) (kt : ∀ q h', Q' (.inr q) h' → Q (.inr q) h') (kk : ∀ v h', Q' (.inl v) h' → X g l M d mc ms Q (pc + 3) L (xpush v st) h' (uc + mc') (us + ms')) : X g l M d mc ms Q pc L st0 h uc us := by
  intro p ev s m args below meth c H locs ls hC hL hR hS
  obtain ⟨hx, hb, hml, hr, hlk, hnm, hown, hts, hKs, htab⟩ := hC
  have hC : xCx g M p s m args meth c := ⟨hx, hb, hml, hr, hlk, hnm, hown, hts, hKs, htab⟩
  subst hst
  have hr := xx_runV (e := ev) (R := xRm d mc ms) (below := below) (meth := meth) (H := H) (locs := locs) (cells := uc) (slots := us) (g := F0 m pc ls (As.reverse ++ .ref b :: st)) (nL := M.2.2.1) (As := As) (rest := st) (Ts := lw_all) (bytes := M'.2.1) (maxL := M'.2.2.1) (ret := M'.2.2.2.1) ⟨hx, hb, hml, hown, hts⟩ hM (cwV n hts (by rw [xws_code hB.1.2.1]; exact lw_V hl hB.2.1 hB.2.2 hB.1.2.2.1 hB.1.1) (xws_code hB.1.2.1) rfl rfl ⟨rfl, hB.1.2.2.2.1⟩ (xRoom hdep hB.1.2.2.2.2)) ⟨xPc_blind _, hv.recv hKs hR hS, xPc_at hKs hR hS⟩ rfl hn hL.1.1 rfl (lv_room hsum) hd ⟨h1, h2⟩
  intro T hT X
  rcases hr T hT X with ⟨v, st₀, t, T', L', h0, X', hL', e1, e2, ⟨⟨v', h', hv, hq, hR'⟩, hF⟩, hst⟩ | ⟨q, st₀, t, T', L', E, ce, h0, X', hL', e1, e2, ⟨⟨h', eE, hq, hR'⟩, hF⟩, hce, hcv, hcl, hst⟩
  · cases hv
    obtain ⟨k1, k2, k3⟩ := vx_keep h0 e1 hS (fun _ _ h => h) (fun _ h => h) hL' hF
    obtain ⟨t2, a1, b1⟩ := kk v h' hq p ev s m args below meth c T'.heap (locs ++ L') ls hC hL (by rw [e1]; exact hR') k3 T' rfl X'
    exact ⟨t2, hst t2 (by rw [xpush_eq]; exact a1), b1⟩
  · subst eE
    obtain ⟨k1, k2, k3⟩ := vx_keep h0 e1 hS (fun _ _ h => h) (fun _ h => h) hL' hF
    have hout : vx_W p l ev (xRm d mc ms) s m args below meth c T'.heap (locs ++ L') (uc + mc') (us + ms') (xx_MQ below (xQc g Q) (xXC g Q) args s mc ms (xA g)) (F0 m pc ls st) q := by
      refine xx_out (E := RX26) (ce := ce) (fun x hx => ?_) hlk (by rw [e1]; exact hce) hcv hcl (fun t' ht' hv' => ⟨⟨h', rfl, kt q h' hq, by rw [ht', e1]; exact hR'⟩, ?_⟩) k3.2.2 h1 h2
      · rw [hh] at htab
        cases he : c.exceptionTable.toList with
        | nil => rw [he] at hx; cases hx
        | cons a b => rw [he] at htab; cases htab
      · refine ⟨?_, fun q' h1 h2 => ?_⟩
        · rw [ht']; exact k3.1
        · rw [ht']; exact k3.2.1 q' h1 h2
    obtain ⟨t2, a1, b1⟩ := hout T' rfl X'
    exact ⟨t2, hst.trans a1, b1⟩
theorem x_Vt0 {M' : xM} {d' mc' ms' : Nat} {Q' : xO → xH → Prop} {idx : Nat} {b : Nat} (hl : Cond.methodLink M.1.cls idx M'.1 ∈ lw_all) (hB : xMV M' 0) (hd : decode M.2.1 pc = .ok (.invokevirtual idx, 3)) (hM : Ct g l M' d' mc' ms' (.ref b :: []) h Q') (hv : xIs g h b M'.1.cls) (kt : ∀ q h', Q' (.inr q) h' → Q (.inr q) h') (kk : ∀ v h', Q' (.inl v) h' → X g l M d mc ms Q (pc + 3) L (xpush v st) h' (uc + mc') (us + ms')) (hdep : d' + 1 ≤ d := by first | exact Nat.le_of_ble_eq_true rfl | omega) (h1 : uc + mc' ≤ mc := by first | exact Nat.le_of_ble_eq_true rfl | omega) (h2 : us + ms' ≤ ms := by first | exact Nat.le_of_ble_eq_true rfl | omega) (hsum : (st.map fun v => v.category).sum ≤ 8 := by first | exact Nat.le_of_ble_eq_true rfl | (simp [xcat_rf, Value.category])) (hh : M.2.2.2.2 = [] := by rfl) : X g l M d mc ms Q pc L (.ref b :: st) h uc us :=
  x_GVt (As := []) hh hl hB hd hM hv rfl rfl hdep h1 h2 hsum kt kk
theorem x_Vt1 {M' : xM} {d' mc' ms' : Nat} {Q' : xO → xH → Prop} {idx : Nat} {b : Nat} {v1 : Value} (hl : Cond.methodLink M.1.cls idx M'.1 ∈ lw_all) (hB : xMV M' 1) (hd : decode M.2.1 pc = .ok (.invokevirtual idx, 3)) (hM : Ct g l M' d' mc' ms' (.ref b :: [v1]) h Q') (hv : xIs g h b M'.1.cls) (kt : ∀ q h', Q' (.inr q) h' → Q (.inr q) h') (kk : ∀ v h', Q' (.inl v) h' → X g l M d mc ms Q (pc + 3) L (xpush v st) h' (uc + mc') (us + ms')) (hdep : d' + 1 ≤ d := by first | exact Nat.le_of_ble_eq_true rfl | omega) (h1 : uc + mc' ≤ mc := by first | exact Nat.le_of_ble_eq_true rfl | omega) (h2 : us + ms' ≤ ms := by first | exact Nat.le_of_ble_eq_true rfl | omega) (hsum : (st.map fun v => v.category).sum ≤ 8 := by first | exact Nat.le_of_ble_eq_true rfl | (simp [xcat_rf, Value.category])) (hh : M.2.2.2.2 = [] := by rfl) : X g l M d mc ms Q pc L (v1 :: .ref b :: st) h uc us :=
  x_GVt (As := [v1]) hh hl hB hd hM hv rfl rfl hdep h1 h2 hsum kt kk
/-- an array of arrays of Layers, each of one place -/
def xma (g : xG) (h : xH) (q N : Nat) : xH := fun b => if b = q then some (.inl (xdA g 5, N, .inr (.inr (.inr (.inr (fun j => if j < N then some (q + 1 + j) else none)))))) else if q < b ∧ b ≤ q + N then some (.inl (xdA g 4, 1, .inr (.inr (.inr (.inr (fun _ => none)))))) else h b
theorem xarr_ext {c : Cell} {cA : ClassId} {n : Nat} {f : Nat → Value} (h1 : c.cls = cA) (h2 : c.vm = .none) (h5 : c.monitor = {} ∧ c.hash = none) (h3 : c.slots.size = n) (h4 : ∀ j, j < n → c.slots[j]? = some (f j)) : c = arrV cA n f := by
  obtain ⟨h5, h6⟩ := h5
  cases c
  subst h1; subst h2; subst h5; subst h6
  unfold arrV
  congr 1
  apply Array.ext_getElem?
  intro i
  by_cases hi : i < n
  · rw [h4 i hi]; simp [hi]
  · rw [Array.getElem?_eq_none (by simp at h3; omega)]; simp; omega
theorem xouter (c : ClassId) (N h0 : Nat) : ∀ i, (Jvm.Free.Multi.outerC c N h0 i).monitor = {} ∧ (Jvm.Free.Multi.outerC c N h0 i).hash = none
  | 0 => ⟨rfl, rfl⟩
  | i + 1 => by
    obtain ⟨a, b⟩ := xouter c N h0 i
    exact ⟨by simp [Jvm.Free.Multi.outerC, Cell.setSlot, a], by simp [Jvm.Free.Multi.outerC, Cell.setSlot, b]⟩
theorem x_manew (N : Nat) {idx : Nat} (hl : Cond.classLink M.1.cls idx "[[LCribBooklet$Layer;" ∈ lw_all) (hd : decode M.2.1 pc = .ok (.multianewarray idx 2, 4)) (hN : N ≤ 1000) (h1 : uc + (1 + N) ≤ mc) (h2 : us + (N + N) ≤ ms) (kk : ∀ q, (∀ j, j ≤ N → h (q + j) = none) → xba g ≤ q → X g l M d mc ms Q (pc + 4) L (.ref q :: st) (xma g h q N) (uc + (1 + N)) (us + (N + N))) : X g l M d mc ms Q pc L (.int (nI 1) :: .int (nI N) :: st) h uc us := by
  intro p ev s m args below meth c H locs ls hC hL hR hS
  obtain ⟨hx, hb, hml, hr, hlk, hnm, hown, hts, hKs, htab⟩ := hC
  have hC : xCx g M p s m args meth c := ⟨hx, hb, hml, hr, hlk, hnm, hown, hts, hKs, htab⟩
  have hbs : xba g ≤ H.size := Nat.le_trans hKs.2.2.2.2.2 hS.1
  have cN : (nI N).toNatClampNeg = N := nI_clamp (by omega)
  have c1 : (nI 1).toNatClampNeg = 1 := nI_clamp (by omega)
  have hno : ∀ j, h (H.size + j) = none := fun j => by
    cases hq : h (H.size + j) with
    | none => rfl
    | some e =>
      have := (hR _ _ hq).2
      have h3 : H.size + j < H.size := va_at.lt this
      omega
  intro T hT X
  obtain ⟨vm₁, cA, comp, hW, hfA, hfC, -, -, X1, step⟩ := X.multianewarray2F hx (index := idx) (ty := .object "CribBooklet$Layer") hown (hts _ hl) (hKs.2.1 _ q467 rfl) (hts _ q469) (g := F0 m pc ls (.int (nI 1) :: .int (nI N) :: st)) rfl (by rw [hb]; exact hd) (n := nI N) (k := nI 1) (rest := st) rfl (nI_nl (by omega)) (nI_nl (by omega)) (by rw [cN]; omega) (by rw [c1]; decide) (by rw [c1]; omega) rfl rfl (by rw [cN]; exact h1) (by rw [cN, c1, Nat.mul_one]; exact h2)
  rw [cN, c1] at X1 step
  obtain ⟨f1, f2, f3, f4⟩ := Jvm.Free.Multi.fill_facts (T.setVm vm₁) cA comp N 1 (defaultValue (.object "CribBooklet$Layer")) N
  have hTs : (T.setVm vm₁).heap = H := hT
  have hA5 : s.vm.findClass "[[LCribBooklet$Layer;" = some (xdA g 5) := (hKs.1.2 5 _ rfl).2
  obtain ⟨-, -, -, -, -, hA4'⟩ := (hKs.1.2 4 _ rfl).2
  have hA4 : s.vm.findClass "[LCribBooklet$Layer;" = some (xdA g 4) := hA4'
  cases Option.some.inj (hfA.symm.trans hA5)
  cases Option.some.inj (hfC.symm.trans hA4)
  rw [hTs] at f1 f2
  have ho := fun j hj => Jvm.Free.Multi.outerC_slot (xdA g 5) N H.size N j hj
  obtain ⟨o1, o2, o3⟩ := Jvm.Free.Multi.outerC_facts (xdA g 5) N H.size N
  have hold : ∀ x : Nat, x < H.size → (Jvm.Free.Multi.fill (T.setVm vm₁) (xdA g 5) (xdA g 4) N 1 (defaultValue (.object "CribBooklet$Layer")) N).heap[x]? = H[x]? := fun x hx => by
    rw [Jvm.Free.Multi.fill_old (T.setVm vm₁) _ _ _ _ _ (by rw [hTs]; exact hx), hTs]
  have hR1 : xR g (xma g h H.size N) (Jvm.Free.Multi.fill (T.setVm vm₁) (xdA g 5) (xdA g 4) N 1 (defaultValue (.object "CribBooklet$Layer")) N).heap := by
    intro b e hbe
    unfold xma at hbe
    by_cases e1 : b = H.size
    · subst e1
      rw [if_pos rfl] at hbe
      cases hbe
      refine ⟨hbs, ?_⟩
      show (Jvm.Free.Multi.fill _ _ _ _ _ _ _).heap[H.size]? = some (vp_cell _ _)
      rw [f2, vp_cell_q]
      refine congrArg some (xarr_ext o1 o2 (xouter _ _ _ _) o3 fun j hj => ?_)
      rw [ho j hj, if_pos hj]; simp [hj, va_rf]
    · rw [if_neg e1] at hbe
      by_cases e2 : H.size < b ∧ b ≤ H.size + N
      · rw [if_pos e2] at hbe
        cases hbe
        refine ⟨by omega, ?_⟩
        show (Jvm.Free.Multi.fill _ _ _ _ _ _ _).heap[b]? = some (vp_cell _ _)
        have := Jvm.Free.Multi.fill_inner (T.setVm vm₁) (xdA g 5) (xdA g 4) N 1 (defaultValue (.object "CribBooklet$Layer")) N (b - H.size - 1) (by omega)
        rw [hTs, show H.size + 1 + (b - H.size - 1) = b by omega] at this
        rw [this, vp_cell_q]
        exact congrArg some (xarr_ext rfl rfl ⟨rfl, rfl⟩ rfl fun j hj => by rw [show j = 0 by omega]; rfl)
      · rw [if_neg e2] at hbe
        obtain ⟨w1, w2⟩ := hR b e hbe
        exact ⟨w1, w2.kept (hold b (va_at.lt w2))⟩
  obtain ⟨t, a1, b1⟩ := kk H.size (fun j _ => hno j) hbs p ev s m args below meth c _ locs ls hC hL hR1 ⟨Nat.le_trans hS.1 (by rw [f1]; omega), fun x h1 h2 => (hold x (Nat.lt_of_lt_of_le h1 hS.1)).trans (hS.2.1 x h1 h2), hS.2.2⟩ _ rfl (by
    have e1 : uc + (1 + N) = uc + 1 + N := by omega
    have e2 : us + (N + N) = us + N + N * 1 := by omega
    rw [e1, e2]; exact X1)
  exact ⟨t, step t (by rw [hT]; exact a1), b1⟩
theorem xz_anewArr {p : Program} {l : Launch} {e : Env} {R : Room} {s : State} {m : MethodId} {args : Array Value} {below : List Frame} {meth : Method} {c : Code} {T : State} {locs : List Loc} {cells slots : Nat} (X : Stand p l e R s m args below meth c T locs cells slots) (hexec : p.tables.exec = Jvm.exec) {own : String} {index : Nat}
    (hown : s.vm.findClass own = some m.cls) (hclink : (Cond.classLink own index "[LCribBooklet$Layer;").before args s = true) (hover : (Cond.arrayOver (.array (.object "CribBooklet$Layer"))).before args s = true)
    {g : JFrame} (hg : g.method = m) (hdg : decode c.code g.pc = .ok (.anewarray index, 3)) {n : Int32} {rest : List Value} (hstack : g.stack = .int n :: rest)
    (hn : ¬ n < 0) (hbytes : n.toNatClampNeg * 4 ≤ 536870912) (hcells : cells + 1 ≤ R.cells) (hslots : slots + n.toNatClampNeg ≤ R.slots) :
    ∃ (vm₁ : Vm) (cA : ClassId), s.WarmedH vm₁ ∧ s.vm.findClass "[[LCribBooklet$Layer;" = some cA ∧
      Stand p l e R s m args below meth c ((T.setVm vm₁).pushCell { cls := cA, slots := Array.replicate n.toNatClampNeg .null, vm := .none }) locs (cells + 1) (slots + n.toNatClampNeg) ∧
      ∀ target, Steps p.tables e below (((T.setVm vm₁).pushCell { cls := cA, slots := Array.replicate n.toNatClampNeg .null, vm := .none }).setTop { g with pc := g.pc + 3, stack := .ref T.heap.size :: rest }) target →
        Steps p.tables e below (T.setTop g) target := by
  subst hg
  have hpl : e.platform.magicAccessors = ({} : Platform).magicAccessors := by rw [X.admits.platform]
  obtain ⟨comp, cA, kA, hcomp, hidx, hkA, hkindA, hnameA⟩ := arrayOverA_spec hover
  obtain ⟨kComp, hkComp, -⟩ := Vm.findClass_spec hcomp
  obtain ⟨cc, hfcc, hcl⟩ := Cond.classLink_spec hown hclink e.platform hpl
  have hcomp' : s.vm.findClass "[LCribBooklet$Layer;" = some comp := hcomp
  cases hcomp'.symm.trans hfcc
  obtain ⟨hg₁, hwarm₁, hready₁⟩ := State.classEntry (e := e) X.warmed hcl
  generalize T.vm.noted g.method.cls index (.cls comp) = vm₁ at hg₁ hwarm₁ hready₁
  have hal : s.vm.Alike vm₁ := hwarm₁.alike
  obtain ⟨kComp₁, hkComp₁, -⟩ := hal.2.2 _ _ hkComp
  obtain ⟨kA₁, hkA₁, heA⟩ := hal.2.2 _ _ hkA
  have hkindA₁ : kA₁.kind = .array comp (.array (.object "CribBooklet$Layer")) := by rw [heA]; exact hkindA
  have hidx₁ : (vm₁.classes.findIdx? fun x => match x.kind with | .array component _ => component == comp | _ => false) = some cA := by
    rw [hal.findIdx?_eq _ (fun _ => rfl)]; exact hidx
  have hlimit : ¬ n.toNatClampNeg > e.platform.arrayLengthLimit := by rw [Launch.admits_arrayLengthLimit X.admits]; omega
  have hheap : ¬ n.toNatClampNeg * componentBytes (.array (.object "CribBooklet$Layer")) > e.platform.maxHeapBytes := by
    rw [Launch.admits_maxHeapBytes X.admits]; show ¬ n.toNatClampNeg * 4 > 536870912; omega
  have X₁ := X.noted hwarm₁
  have X₂ := X₁.pushed { cls := cA, slots := Array.replicate n.toNatClampNeg .null, vm := .none }
  obtain ⟨hr1, hr2⟩ := X.roomAbove hcells hslots
  refine ⟨vm₁, cA, hwarm₁, hnameA, by simpa using X₂, fun target hrest => ?_⟩
  jvm_step X.here [hexec, hdg, anewarray.wp_cold (e := e) (s := T) (f := g) X.here.top hg₁ hready₁,
    anewarray.wp_ready (e := e) (s := T.setVm vm₁) (f := g) (kc := kComp₁) (k := kA₁) (type := .array (.object "CribBooklet$Layer")) X.here.top hready₁ hkComp₁ hidx₁ hkA₁ hkindA₁ rfl hstack hn hlimit hheap]
  exact ⟨by show T.heap.size < _; omega, by show T.slotsUsed + _ ≤ _; exact hr2, hrest⟩
/-- an array of arrays of Layers, all null -/
theorem x_anewA {n : Int32} (N : Nat) {idx : Nat} (hl : Cond.classLink M.1.cls idx "[LCribBooklet$Layer;" ∈ lw_all) (hd : decode M.2.1 pc = .ok (.anewarray idx, 3)) (hn : n = nI N) (hN : N * 4 ≤ 536870912) (h1 : uc + 1 ≤ mc) (h2 : us + N ≤ ms) (kk : ∀ q, h q = none → xba g ≤ q → X g l M d mc ms Q (pc + 3) L (.ref q :: st) (xu h q (.inl (xdA g 5, N, .inr (.inr (.inr (.inr (fun _ => none))))))) (uc + 1) (us + N)) : X g l M d mc ms Q pc L (.int n :: st) h uc us := by
  intro p ev s m args below meth c H locs ls hC hL hR hS
  obtain ⟨hx, hb, hml, hr, hlk, hnm, hown, hts, hKs, htab⟩ := hC
  have hC : xCx g M p s m args meth c := ⟨hx, hb, hml, hr, hlk, hnm, hown, hts, hKs, htab⟩
  subst hn
  have hlt : N < 2 ^ 31 := by omega
  have hcl : (nI N).toNatClampNeg = N := nI_clamp hlt
  have hbs : xba g ≤ H.size := Nat.le_trans hKs.2.2.2.2.2 hS.1
  intro T hT X
  obtain ⟨vm₁, cA, hW, hfA, X1, step⟩ := xz_anewArr X hx (index := idx) hown (hts _ hl) (hKs.2.1 _ q467 rfl) (g := F0 m pc ls (.int (nI N) :: st)) rfl (by rw [hb]; exact hd) (n := nI N) (rest := st) rfl (nI_nl hlt) (by rw [hcl]; exact hN) h1 (by rw [hcl]; exact h2)
  have k4 : s.vm.findClass "[[LCribBooklet$Layer;" = some (xdA g 5) := (hKs.1.2 5 _ rfl).2
  cases Option.some.inj (hfA.symm.trans k4)
  rw [hcl] at X1 step
  have hH : ((T.setVm vm₁).pushCell { cls := xdA g 5, slots := Array.replicate N .null, vm := .none }).heap = H.push { cls := xdA g 5, slots := Array.replicate N .null, vm := .none } := by
    show T.heap.push _ = _
    rw [hT]
  have he : va_at (xD g) xCl (H.size, .inl (xdA g 5, N, .inr (.inr (.inr (.inr (fun _ => none)))))) (H.push { cls := xdA g 5, slots := Array.replicate N .null, vm := .none }) := by
    show (H.push _)[H.size]? = some (vp_cell _ _)
    rw [vp_cell_q, Array.getElem?_push_size]
    refine congrArg some ?_
    unfold arrV
    congr 1
    apply Array.ext <;> simp [va_rf]
  obtain ⟨t, a1, b1⟩ := kk H.size hR.none hbs p ev s m args below meth c _ locs ls hC hL (hR.push hbs he (fun q hq => by simp [Array.getElem?_push, Nat.ne_of_lt hq])) ⟨Nat.le_trans hS.1 (by simp), fun x h1 h2 => (by rw [Array.getElem?_push, if_neg (Nat.ne_of_lt (Nat.lt_of_lt_of_le h1 hS.1))]; exact hS.2.1 x h1 h2), hS.2.2⟩ _ hH X1
  exact ⟨t, step t (by rw [hT]; exact a1), b1⟩
/-- which method runs at an interface's call: what the tables say of it -/
def xIF (C : String) (x : MethodName) (M' : xM) (n : Nat) : Prop := Cond.selects C x M'.1 ∈ lw_all ∧ Cond.instanceMethod M'.1 ∈ lw_all ∧ xMc M' n ∧ (C, x, M'.1) ∈ xFwL ∧ x.desc = M'.1.desc ∧ ∃ r ∈ xCl, r.1 = C
theorem x_IF1 {M' : xM} {d' mc' ms' : Nat} {Q' : xO → xH → Prop} {idx : Nat} {v1 : Value} {C : String} {x : MethodName} {b cnt : Nat} (hl : Cond.methodLink M.1.cls idx x ∈ lw_all) (hI : xIF C x M' 1) (hd : decode M.2.1 pc = .ok (.invokeinterface idx cnt, 5)) (hM : Ct g l M' d' mc' ms' (.ref b :: [v1]) h Q') (hv : xIs g h b C) (kk : ∀ v h', Q' (.inl v) h' → X g l M d mc ms Q (pc + 5) L (xpush v st) h' (uc + mc') (us + ms')) (hdep : d' + 1 ≤ d := by first | exact Nat.le_of_ble_eq_true rfl | omega) (h1 : uc + mc' ≤ mc := by first | exact Nat.le_of_ble_eq_true rfl | omega) (h2 : us + ms' ≤ ms := by first | exact Nat.le_of_ble_eq_true rfl | omega) (hno : ∀ q h', ¬ Q' (.inr q) h' := by intro q h' hh; first | exact False.elim hh | (simp at hh)) (hsum : (st.map fun v => v.category).sum ≤ 8 := by first | exact Nat.le_of_ble_eq_true rfl | (simp [xcat_rf, Value.category])) : X g l M d mc ms Q pc L (v1 :: .ref b :: st) h uc us :=
  x_GF (As := [v1]) hl hI.1 hI.2.1 hI.2.2.1 hI.2.2.2.1 hI.2.2.2.2.1 hd hM hv hI.2.2.2.2.2 rfl rfl hdep h1 h2 hno hsum kk
theorem x_IF0 {M' : xM} {d' mc' ms' : Nat} {Q' : xO → xH → Prop} {idx : Nat} {C : String} {x : MethodName} {b cnt : Nat} (hl : Cond.methodLink M.1.cls idx x ∈ lw_all) (hI : xIF C x M' 0) (hd : decode M.2.1 pc = .ok (.invokeinterface idx cnt, 5)) (hM : Ct g l M' d' mc' ms' (.ref b :: []) h Q') (hv : xIs g h b C) (kk : ∀ v h', Q' (.inl v) h' → X g l M d mc ms Q (pc + 5) L (xpush v st) h' (uc + mc') (us + ms')) (hdep : d' + 1 ≤ d := by first | exact Nat.le_of_ble_eq_true rfl | omega) (h1 : uc + mc' ≤ mc := by first | exact Nat.le_of_ble_eq_true rfl | omega) (h2 : us + ms' ≤ ms := by first | exact Nat.le_of_ble_eq_true rfl | omega) (hno : ∀ q h', ¬ Q' (.inr q) h' := by intro q h' hh; first | exact False.elim hh | (simp at hh)) (hsum : (st.map fun v => v.category).sum ≤ 8 := by first | exact Nat.le_of_ble_eq_true rfl | (simp [xcat_rf, Value.category])) : X g l M d mc ms Q pc L (.ref b :: st) h uc us :=
  x_GF (As := []) hl hI.1 hI.2.1 hI.2.2.1 hI.2.2.2.1 hI.2.2.2.2.1 hd hM hv hI.2.2.2.2.2 rfl rfl hdep h1 h2 hno hsum kk
/-- a call of a superclass's method -/
theorem x_GSU {M' : xM} {d' mc' ms' n : Nat} {Q' : xO → xH → Prop} {idx : Nat} {C : String} {b : Nat} {As st0 : List Value} (hl : Cond.methodLink M.1.cls idx M'.1 ∈ lw_all) (hsm : Cond.sameMethod M'.1.cls M'.1.cls M'.1.name M'.1.desc ∈ lw_all) (hsup : Cond.superclass M.1.cls M'.1.cls ∈ lw_all) (hinst : Cond.instanceMethod M'.1 ∈ lw_all) (hB : xMc M' n) (hni : M'.1.name ≠ "<init>") (hd : decode M.2.1 pc = .ok (.invokespecial idx, 3)) (hM : Ct g l M' d' mc' ms' (.ref b :: As) h Q') (hv : xIs g h b C) (hat : ∃ r ∈ xCl, r.1 = C) (hst : st0 = As.reverse ++ .ref b :: st) (hn : As.length = n) (hdep : d' + 1 ≤ d) (h1 : uc + mc' ≤ mc) (h2 : us + ms' ≤ ms) (hno : ∀ q h', ¬ Q' (.inr q) h') (hsum : (st.map fun v => v.category).sum ≤ 8) (kk : ∀ v h', Q' (.inl v) h' → X g l M d mc ms Q (pc + 3) L (xpush v st) h' (uc + mc') (us + ms')) : X g l M d mc ms Q pc L st0 h uc us := by
  intro p ev s m args below meth c H locs ls hC hL hR hS
  obtain ⟨hx, hb, hml, hr, hlk, hnm, hown, hts, hKs, htab⟩ := hC
  have hC : xCx g M p s m args meth c := ⟨hx, hb, hml, hr, hlk, hnm, hown, hts, hKs, htab⟩
  subst hst
  obtain ⟨r, hr1, hr2⟩ := hat
  obtain ⟨ci, hci⟩ := List.getElem?_of_mem hr1
  have hcat : ClassAt s C ((xD g).1 ci) := by rw [← hr2]; exact (hKs.1.1 ci r hci).2
  refine x_cont (va_runSU (nL := M.2.2.1) (As := As) (Ts := lw_all) (bytes := M'.2.1) (maxL := M'.2.2.1) (ret := M'.2.2.2.1) (n := n) hcat ⟨hx, hb, hml, hown, hts⟩ (hM.met hno) (va_cwSU n hts (lw_app ?_ (xws_good hB)) (xws_code hB.2.1) rfl rfl ⟨hni, hB.2.2.2.1.2.2⟩ (xRoom hdep hB.2.2.2.2)) ⟨xPc_blind _, hv.recv hKs hR hS, xPc_at hKs hR hS⟩ rfl hn hL.1.1 rfl (lv_room hsum) hd ⟨h1, h2⟩) hC hL hS kk
  intro w hw
  simp only [List.mem_cons, List.not_mem_nil, or_false] at hw
  rcases hw with e | e | e | e | e
  · rw [e]; exact hl
  · rw [e]; exact hsm
  · rw [e]; exact hsup
  · rw [e]; exact hinst
  · rw [e]; exact hB.2.2.1
/-- a call of an inherited private method -/
theorem x_GUp {M' : xM} {d' mc' ms' n : Nat} {Q' : xO → xH → Prop} {idx : Nat} {C : String} {x : MethodName} {b : Nat} {As st0 : List Value} (hl : Cond.methodLink M.1.cls idx x ∈ lw_all) (hsm : Cond.sameMethod x.cls M'.1.cls x.name x.desc ∈ lw_all) (hsel : Cond.selects C x M'.1 ∈ xExL) (hinst : Cond.instanceMethod M'.1 ∈ lw_all) (hB : xMc M' n) (hyx : M'.1 = ⟨M'.1.cls, x.name, x.desc⟩) (hd : decode M.2.1 pc = .ok (.invokevirtual idx, 3)) (hM : Ct g l M' d' mc' ms' (.ref b :: As) h Q') (hv : xIs g h b C) (hst : st0 = As.reverse ++ .ref b :: st) (hn : As.length = n) (hdep : d' + 1 ≤ d) (h1 : uc + mc' ≤ mc) (h2 : us + ms' ≤ ms) (hno : ∀ q h', ¬ Q' (.inr q) h') (hsum : (st.map fun v => v.category).sum ≤ 8) (kk : ∀ v h', Q' (.inl v) h' → X g l M d mc ms Q (pc + 3) L (xpush v st) h' (uc + mc') (us + ms')) : X g l M d mc ms Q pc L st0 h uc us := by
  intro p ev s m args below meth c H locs ls hC hL hR hS
  obtain ⟨hx, hb, hml, hr, hlk, hnm, hown, hts, hKs, htab⟩ := hC
  have hC : xCx g M p s m args meth c := ⟨hx, hb, hml, hr, hlk, hnm, hown, hts, hKs, htab⟩
  subst hst
  have hsw : (Cond.selects C x M'.1).before args s = true := va_any rfl (show va_Nw _ s from hKs.2.2.2.1 _ hsel)
  have hts' : ∀ w ∈ Cond.selects C x M'.1 :: lw_all, w.before args s = true := fun w hw => by
    rcases List.mem_cons.mp hw with e | e
    · rw [e]; exact hsw
    · exact hts w e
  refine x_cont (va_runU (nL := M.2.2.1) (As := As) (Ts := Cond.selects C x M'.1 :: lw_all) (bytes := M'.2.1) (maxL := M'.2.2.1) (ret := M'.2.2.2.1) (n := n) (x := x) (owner := M'.1.cls) ⟨hx, hb, hml, hown, hts'⟩ (hM.met hno) (va_cwU n hts' ?_ (xws_code hB.2.1) rfl rfl hyx ⟨hB.2.2.2.1.1, hB.2.2.2.1.2.1, by rw [show x.desc = M'.1.desc by rw [hyx]]; exact hB.2.2.2.1.2.2⟩ (xRoom hdep hB.2.2.2.2)) ⟨xPc_blind _, hv.recv hKs hR hS, xPc_at hKs hR hS⟩ rfl hn hL.1.1 rfl (lv_room hsum) hd ⟨h1, h2⟩) hC hL hS kk
  intro w hw
  have up : GoodIn (Cond.selects C x M'.1 :: lw_all) lw_all := fun w hw => ⟨List.mem_cons_of_mem _ hw, (lw_self w hw).2⟩
  rcases List.mem_append.mp hw with hw | hw
  · simp only [List.mem_cons, List.not_mem_nil, or_false] at hw
    rcases hw with e | e | e | e | e
    · rw [e]; exact up _ hl
    · rw [e]; exact up _ hsm
    · rw [e]; exact ⟨List.mem_cons_self, good_of_word rfl⟩
    · rw [e]; exact up _ hinst
    · rw [e]; exact up _ hB.2.2.1
  · exact up _ (xws_good hB w hw).1
/-- a call through an interface, of a method that a superinterface declares -/
theorem xz_callUp {p : Program} {l : Launch} {e : Env} {R : Room} {s : State} {m : MethodId} {args : Array Value} {below : List Frame} {meth : Method} {c : Code} {T : State} {locs : List Loc} {cells slots : Nat} (X : Stand p l e R s m args below meth c T locs cells slots) (hexec : p.tables.exec = Jvm.exec) {own C J : String} {index count : Nat} {x y : MethodName}
    (hown : s.vm.findClass own = some m.cls) (hlink : (Cond.methodLink own index x).before args s = true) (hface : (Cond.interfaceMethod x.cls J x.name x.desc).before args s = true) (hdecl : (Cond.declares ⟨J, x.name, x.desc⟩).before args s = true) (hpubO : (Cond.publicMethod ⟨J, x.name, x.desc⟩).before args s = true) (hxo : x.cls ≠ J) (hJ : J ≠ "java/lang/invoke/MethodHandle" ∧ J ≠ "java/lang/invoke/VarHandle")
    (hsel : (Cond.selects C ⟨J, x.name, x.desc⟩ y).before args s = true) (hinst : (Cond.instanceMethod y).before args s = true) (hpub : (Cond.publicMethod y).before args s = true) (hunh : (Cond.unhidden C x.name x.desc).before args s = true)
    (hcast : (Cond.castable C x.cls).before args s = true) (hx : x.cls ≠ "java/lang/invoke/MethodHandle" ∧ x.cls ≠ "java/lang/invoke/VarHandle")
    {W : Nat} {Pre : Pt → Array Value → Prop} {Post : Pt → Array Value → Option Value → Pt → Prop} (hK : Back l R p e below s args y 5 W Pre Post)
    {b : Addr} {cellB : Cell} {kB : Class} (hcell : T.heap[b]? = some cellB) (hobj : cellB.vm.isStatics = false) (hcls : s.vm.findClass C = some cellB.cls) (hkB : s.vm.classes[cellB.cls]? = some kB)
    {g : JFrame} (hg : g.method = m) (hsize : g.locals.size = c.maxLocals) {argsL rest : List Value} (hlen : ∀ sig, parseMethodDescriptor x.desc = some sig → argsL.length = sig.parameters.length)
    (hstack : g.stack = argsL.reverse ++ .ref b :: rest) (hW : 2 * g.monitorRoom + (rest.map fun v => v.category).sum ≤ W) (hdg : decode c.code g.pc = .ok (.invokeinterface index count, 5))
    (hpre : ∀ vm₁, s.WarmedH vm₁ → Pre ⟨T.setVm vm₁, locs, cells, slots⟩ (Value.ref b :: argsL).toArray) :
    ∃ (v : Option Value) (vm₁ : Vm) (B : Pt), s.WarmedH vm₁ ∧ Stand p l e R s m args below meth c B.U B.locs B.cells B.slots ∧ Post ⟨T.setVm vm₁, locs, cells, slots⟩ (Value.ref b :: argsL).toArray v B ∧
      ∀ target, Steps p.tables e below (B.U.setTop { g with pc := g.pc + 5, stack := v.toList ++ rest }) target → Steps p.tables e below (T.setTop g) target := by
  obtain ⟨r0, r, hn, hrm, hstR, hsigR⟩ := Cond.declares_spec hdecl
  obtain ⟨hnameR, hdescR⟩ := name_of_methodNamed hn hrm
  obtain ⟨mk, methM, hnamed, hmethM, -, habM⟩ := Cond.instanceMethod_spec hinst
  obtain ⟨c2, r2, m2, q1, q2, q3, q4, -⟩ := Cond.selects_spec hsel
  cases hcls.symm.trans q1
  have hfoundJ : s.methodFound? J x.name x.desc = some r0 := State.methodFound?_of_named hn hJ
  cases hfoundJ.symm.trans q2
  cases hnamed.symm.trans q3
  have hselP : selectMethod e.platform s.vm cellB.cls r0 = .method mk := by rw [Launch.admits_selectMethod X.admits]; exact q4
  have hpubM : hasFlag methM.accessFlags Acc.public_ = true := Cond.publicMethod_spec hnamed hmethM hpub
  have hway : ((cellB.cls :: s.vm.superclasses cellB.cls).any fun k => (declaredIn s.vm r.name r.desc k).any fun (_, z) => z.isPrivate || z.isStatic) = false := by
    rw [hnameR, hdescR]; exact Cond.unhidden_spec hcls hunh
  obtain ⟨c3, t3, w1, w2, w3⟩ := Cond.castable_spec hcast
  cases hcls.symm.trans w1
  obtain ⟨vm₁, X₁, hstep₁⟩ := X.invokeinterfaceUp hexec hown hlink hface hdecl hpubO hxo hx (a := b) (cell := cellB) (kcell := kB) w2 hcell
    (fun z h => by rw [h] at hobj; cases hobj) hkB w3 hn hrm hselP hmethM hway hpubM habM (g := g) hg (argsL := argsL) (rest := rest) (hlen _ hsigR) hstack hdg
  obtain ⟨v, B, X', hpost, hsteps⟩ := hK m meth c ⟨T.setVm vm₁, locs, cells, slots⟩ { g with stack := rest } (.invokeinterface index count) mk (Value.ref b :: argsL).toArray X₁ hg hsize hdg hW (X₁.named hnamed) (hpre vm₁ X₁.warmed)
  exact ⟨v, vm₁, B, X₁.warmed, X', hpost, fun target h => hstep₁ _ fun acts => by rw [doInvoke_state]; exact hsteps.trans h⟩
/-- TreeSet.add's call of its map's put -/
theorem x_Put {d' mc' ms' : Nat} {Q' : xO → xH → Prop} {b cnt : Nat} {v1 v2 : Value} (hcls : M.1.cls = "java/util/TreeSet") (hd : decode M.2.1 pc = .ok (.invokeinterface 69 cnt, 5)) (hM : Ct g l mJ21_put d' mc' ms' (.ref b :: [v1, v2]) h Q') (hv : xIs g h b "java/util/TreeMap") (hdep : d' + 1 ≤ d) (h1 : uc + mc' ≤ mc) (h2 : us + ms' ≤ ms) (hno : ∀ q h', ¬ Q' (.inr q) h') (hsum : (st.map fun v => v.category).sum ≤ 8) (kk : ∀ v h', Q' (.inl v) h' → X g l M d mc ms Q (pc + 5) L (xpush v st) h' (uc + mc') (us + ms')) : X g l M d mc ms Q pc L (v2 :: v1 :: .ref b :: st) h uc us := by
  intro p ev s m args below meth c H locs ls hC hL hR hS
  obtain ⟨hx, hb, hml, hr, hlk, hnm, hown, hts, hKs, htab⟩ := hC
  have hC : xCx g M p s m args meth c := ⟨hx, hb, hml, hr, hlk, hnm, hown, hts, hKs, htab⟩
  have hB : xMc mJ21_put 2 := kVJ21_put.1
  obtain ⟨cellB, hcB, hoB, hclB⟩ := hv.recv hKs hR hS
  have hcat : ClassAt s "java/util/TreeMap" ((xD g).1 35) := (hKs.1.1 35 _ rfl).2
  obtain ⟨hfc, kB, hkB, -⟩ := hcat
  rw [Option.some.inj (hfc.symm.trans hclB)] at hkB
  have hK : Back l (xRm d mc ms) p ev below s args mJ21_put.1 5 8 (PreOf (xRm d mc ms) mc' ms' (xPc g [.ref b, v1, v2] h)) (PostOf (xQc g Q') mc' ms' (xA g)) := back_of (ws := xws mJ21_put) (rm := xRm d' mc' ms') (bytes := mJ21_put.2.1) (maxL := mJ21_put.2.2.1) (ret := mJ21_put.2.2.2.1) (hM.met hno) (xPc_blind _) rfl rfl (xRoom hdep hB.2.2.2.2).1 (xRoom hdep hB.2.2.2.2).2 (pay_in hts (xws_good hB)) (by rw [xws_code hB.2.1]; exact List.mem_cons_self) (fun a' U hW => word_at hW (Or.inl rfl) (hts _ hB.2.2.1))
  refine x_cont5 (a := [.ref b, v1, v2].toArray) (Q' := Q') (mc' := mc') (ms' := ms') ?_ hC hL hS kk
  intro T hT X
  obtain ⟨v, vm₁, ⟨U', l2, c2, s2⟩, hW₁, X', ⟨g', mk, t, L, e1, e2, hq, h1', hL', h2', h3'⟩, stp⟩ := xz_callUp X hx (C := "java/util/TreeMap") (J := "java/util/Map") (x := ⟨"java/util/NavigableMap", "put", "(Ljava/lang/Object;Ljava/lang/Object;)Ljava/lang/Object;"⟩) (y := mJ21_put.1) hown (by rw [hcls]; exact va_any rfl (show va_Nw _ s from hKs.2.2.2.1 _ (List.Mem.head _))) (va_any rfl (show va_Nw _ s from hKs.2.2.2.1 _ (List.Mem.tail _ (List.Mem.head _)))) (va_any rfl (show va_Nw _ s from hKs.2.1 _ q2820 rfl)) (va_any rfl (show va_Nw _ s from hKs.2.1 _ q2819 rfl)) (by decide) (by decide) (hts _ q2821) (hts _ q2524) (va_any rfl (show va_Nw _ s from hKs.2.1 _ q2823 rfl)) (va_any rfl (show va_Nw _ s from hKs.2.1 _ q2822 rfl)) (va_any rfl (show va_Nw _ s from hKs.2.1 _ q779 rfl)) (by decide) hK (by rw [hT]; exact hcB) hoB hclB hkB (g := F0 m pc ls (v2 :: v1 :: .ref b :: st)) rfl (hL.1.1.trans hml.symm) (argsL := [v1, v2]) (rest := st) (fun sig hs => by
      have h9 := hB.2.2.2.1.2.2
      rw [show mJ21_put.1.desc = "(Ljava/lang/Object;Ljava/lang/Object;)Ljava/lang/Object;" from rfl, hs] at h9
      exact (Option.some.inj h9).symm) rfl (lv_room hsum) (by rw [hb]; exact hd) (fun vm₁ hW₁ => ⟨h1, h2, xPc_at hKs hR hS (T.setVm vm₁) hT hW₁⟩)
  dsimp only [Pt.U, Pt.locs, Pt.cells, Pt.slots] at X' e1 e2 h1' h2' h3' stp
  subst h1'; subst h2'; subst h3'
  exact ⟨v, (T.setVm vm₁).calling g' mk [.ref b, v1, v2].toArray, t, U', L, hT, X', hL', e1, e2, hq, stp⟩
end XROW2

section MODEL4
set_option maxRecDepth 100000
variable {g : xG} {l : Launch} {m : Nat} {A : Nat → Nat} {I : Nat → Int32} {B : Nat → Nat → Int32} {wd : Int64}
def LYA (B : Nat → Nat → Int32) (ly : Nat → Lay) (t : Nat) : Prop := B 10 t = nI (ly t).1 ∧ B 11 t = bI (p_side (ly t)) ∧ B 12 t = bI (ly t).2.1 ∧ B 13 t = bI (ly t).2.2
def HADI (k : Nat) (B0 B : Nat → Nat → Int32) : Prop := (∀ j, j < 14 ∨ 17 < j → B j = B0 j) ∧ ∀ t, t < k → B 14 t = B0 10 t ∧ B 15 t = B0 11 t ∧ B 16 t = B0 12 t ∧ B 17 t = B0 13 t
def FOLDI (f hi wi ma : Nat) (ly : Nat → Lay) (B0 B : Nat → Nat → Int32) (p k : Nat) : Prop := (∀ j, j < 10 ∨ 17 < j → B j = B0 j) ∧ (∀ t, t < 16 → B 14 t = B0 10 t ∧ B 15 t = B0 11 t ∧ B 16 t = B0 12 t ∧ B 17 t = B0 13 t) ∧ ∀ t, (t < 2 * ma * p + k ∨ (2 * ma * p + ma ≤ t ∧ t < 2 * ma * p + ma + k)) → LYA B (p_fold f hi wi ma ly) t
theorem m_foldBy_l1 (d : Nat) (v1 a3 a4 a5 a6 a7 a8 a9 a10 a11 a12 a13 : Option Value) (hv1 : ∀ w, v1 = some w → w.category = 1) (Q : xO → xH → Prop) (h0 : xH) (B0 : Nat → Nat → Int32) (hE : ∀ h B, MR g h m A I B wd → MF m A h0 h → HADI 16 B0 B → X g l mX3_foldBy d 0 0 Q 62 [some (.ref m), v1, some (.int (nI 16)), a3, a4, a5, a6, a7, a8, a9, a10, a11, a12, a13] [] h 0 0) : ∀ n k, k + n = 16 → ∀ h B, MR g h m A I B wd → MF m A h0 h → HADI k B0 B → X g l mX3_foldBy d 0 0 Q 2 [some (.ref m), v1, some (.int (nI k)), a3, a4, a5, a6, a7, a8, a9, a10, a11, a12, a13] [] h 0 0 := by
  intro n
  induction n with
  | zero =>
    intro k hk h B hM hF hO
    have : k = 16 := by omega
    subst this
    refine x_iload_n (M := mX3_foldBy) (pc := 2) dX3_foldBy_2 rfl ?_
    refine x_bipush (M := mX3_foldBy) (pc := 3) (v := nI 16) dX3_foldBy_3 (by decide) ?_
    first | with_reducible refine x_icmp_geN (M := mX3_foldBy) (pc := 5) 62 dX3_foldBy_5 (by decide) (by omega) (by omega) (fun c1 => ?_) (fun c1 => ?_) | refine x_icmp_ge (M := mX3_foldBy) (pc := 5) 62 dX3_foldBy_5 (by decide) (fun c1 => ?_) (fun c1 => ?_)
    · exact hE h B hM hF hO
    · omega
  | succ n ih =>
    intro k hk h B hM hF hO
    refine x_iload_n (M := mX3_foldBy) (pc := 2) dX3_foldBy_2 rfl ?_
    refine x_bipush (M := mX3_foldBy) (pc := 3) (v := nI 16) dX3_foldBy_3 (by decide) ?_
    first | with_reducible refine x_icmp_geN (M := mX3_foldBy) (pc := 5) 62 dX3_foldBy_5 (by decide) (by omega) (by omega) (fun c1 => ?_) (fun c1 => ?_) | refine x_icmp_ge (M := mX3_foldBy) (pc := 5) 62 dX3_foldBy_5 (by decide) (fun c1 => ?_) (fun c1 => ?_)
    · omega
    · refine x_aload_n (M := mX3_foldBy) (pc := 8) dX3_foldBy_8 rfl ?_
      refine x_get (M := mX3_foldBy) (pc := 9) kcX3 14 rfl q2849 dX3_foldBy_9 hM.1 rfl ?_
      refine x_iload_n (M := mX3_foldBy) (pc := 12) dX3_foldBy_12 rfl ?_
      refine x_aload_n (M := mX3_foldBy) (pc := 13) dX3_foldBy_13 rfl ?_
      refine x_get (M := mX3_foldBy) (pc := 14) kcX3 10 rfl q2845 dX3_foldBy_14 hM.1 rfl ?_
      refine x_iload_n (M := mX3_foldBy) (pc := 17) dX3_foldBy_17 rfl ?_
      refine xm_iald (M := mX3_foldBy) (pc := 18) hM dX3_foldBy_18 (by decide) (by first | decide | (simp only [mSz] <;> omega)) ?_
      refine xm_iast (M := mX3_foldBy) (pc := 19) hM hF dX3_foldBy_19 (by decide) (by first | decide | (simp only [mSz] <;> omega)) (fun h hM hF => ?_)
      refine x_aload_n (M := mX3_foldBy) (pc := 20) dX3_foldBy_20 rfl ?_
      refine x_get (M := mX3_foldBy) (pc := 21) kcX3 15 rfl q2850 dX3_foldBy_21 hM.1 rfl ?_
      refine x_iload_n (M := mX3_foldBy) (pc := 24) dX3_foldBy_24 rfl ?_
      refine x_aload_n (M := mX3_foldBy) (pc := 25) dX3_foldBy_25 rfl ?_
      refine x_get (M := mX3_foldBy) (pc := 26) kcX3 11 rfl q2846 dX3_foldBy_26 hM.1 rfl ?_
      refine x_iload_n (M := mX3_foldBy) (pc := 29) dX3_foldBy_29 rfl ?_
      refine xm_iald (M := mX3_foldBy) (pc := 30) hM dX3_foldBy_30 (by decide) (by first | decide | (simp only [mSz] <;> omega)) ?_
      refine xm_iast (M := mX3_foldBy) (pc := 31) hM hF dX3_foldBy_31 (by decide) (by first | decide | (simp only [mSz] <;> omega)) (fun h hM hF => ?_)
      refine x_aload_n (M := mX3_foldBy) (pc := 32) dX3_foldBy_32 rfl ?_
      refine x_get (M := mX3_foldBy) (pc := 33) kcX3 16 rfl q2851 dX3_foldBy_33 hM.1 rfl ?_
      refine x_iload_n (M := mX3_foldBy) (pc := 36) dX3_foldBy_36 rfl ?_
      refine x_aload_n (M := mX3_foldBy) (pc := 37) dX3_foldBy_37 rfl ?_
      refine x_get (M := mX3_foldBy) (pc := 38) kcX3 12 rfl q2847 dX3_foldBy_38 hM.1 rfl ?_
      refine x_iload_n (M := mX3_foldBy) (pc := 41) dX3_foldBy_41 rfl ?_
      refine xm_iald (M := mX3_foldBy) (pc := 42) hM dX3_foldBy_42 (by decide) (by first | decide | (simp only [mSz] <;> omega)) ?_
      refine xm_iast (M := mX3_foldBy) (pc := 43) hM hF dX3_foldBy_43 (by decide) (by first | decide | (simp only [mSz] <;> omega)) (fun h hM hF => ?_)
      refine x_aload_n (M := mX3_foldBy) (pc := 44) dX3_foldBy_44 rfl ?_
      refine x_get (M := mX3_foldBy) (pc := 45) kcX3 17 rfl q2852 dX3_foldBy_45 hM.1 rfl ?_
      refine x_iload_n (M := mX3_foldBy) (pc := 48) dX3_foldBy_48 rfl ?_
      refine x_aload_n (M := mX3_foldBy) (pc := 49) dX3_foldBy_49 rfl ?_
      refine x_get (M := mX3_foldBy) (pc := 50) kcX3 13 rfl q2848 dX3_foldBy_50 hM.1 rfl ?_
      refine x_iload_n (M := mX3_foldBy) (pc := 53) dX3_foldBy_53 rfl ?_
      refine xm_iald (M := mX3_foldBy) (pc := 54) hM dX3_foldBy_54 (by decide) (by first | decide | (simp only [mSz] <;> omega)) ?_
      refine xm_iast (M := mX3_foldBy) (pc := 55) hM hF dX3_foldBy_55 (by decide) (by first | decide | (simp only [mSz] <;> omega)) (fun h hM hF => ?_)
      refine x_iinc2N (M := mX3_foldBy) (pc := 56) (c := 1) dX3_foldBy_56 oI1 ?_ hv1
      refine x_goto (M := mX3_foldBy) (pc := 59) 2 dX3_foldBy_59 (by decide) ?_
      refine ih (k + 1) (by omega) h _ hM hF ⟨fun j hj => ?_, fun t ht => ?_⟩
      · rw [va_up_n _ _ (by omega), va_up_n _ _ (by omega), va_up_n _ _ (by omega), va_up_n _ _ (by omega)]; exact hO.1 j hj
      · have e0 := hO.1 10 (by omega)
        have e1 := hO.1 11 (by omega)
        have e2 := hO.1 12 (by omega)
        have e3 := hO.1 13 (by omega)
        simp only [va_up, upd]
        by_cases e : t = k
        · subst e; simp [upd, e0, e1, e2, e3]
        · simp [upd, e]; exact hO.2 t (by omega)
theorem p_take_ne {B : Nat → Nat → Int32} {to fr tn j t : Nat} (h : ¬ t = to) : p_take B to fr tn j t = B j t := by simp [p_take, h]
theorem p_take_fr {B : Nat → Nat → Int32} {to fr tn j : Nat} (h : j < 10 ∨ 13 < j) : p_take B to fr tn j = B j := by
  funext t
  have a1 : ¬ j = 10 := by omega
  have a2 : ¬ j = 11 := by omega
  have a3 : ¬ j = 12 := by omega
  have a4 : ¬ j = 13 := by omega
  simp [p_take, a1, a2, a3, a4]
theorem take_at {B : Nat → Nat → Int32} {x : Lay} {to fr f : Nat} (h : B 14 fr = nI x.1 ∧ B 15 fr = bI (p_side x) ∧ B 16 fr = bI x.2.1 ∧ B 17 fr = bI x.2.2) : (p_take B to fr 0 10 to = nI x.1 ∧ p_take B to fr 0 11 to = bI (p_side x) ∧ p_take B to fr 0 12 to = bI x.2.1 ∧ p_take B to fr 0 13 to = bI x.2.2) ∧ (p_take B to fr (if f < 3 then 1 else 2) 10 to = nI (p_turn f x).1 ∧ p_take B to fr (if f < 3 then 1 else 2) 11 to = bI (p_side (p_turn f x)) ∧ p_take B to fr (if f < 3 then 1 else 2) 12 to = bI (p_turn f x).2.1 ∧ p_take B to fr (if f < 3 then 1 else 2) 13 to = bI (p_turn f x).2.2) := by
  obtain ⟨h1, h2, h3, h4⟩ := h
  refine ⟨⟨by simp [p_take, h1], by simp [p_take, h2], by simp [p_take, h3], by simp [p_take, h4]⟩, ?_⟩
  rw [p_side_turn]
  by_cases e : f < 3 <;> simp [p_take, p_turn, e, h1, h2, h3, h4, bI_not]
theorem m_foldBy_l3 (d f hi wi ma : Nat) (ly : Nat → Lay) (hok : p_ok hi wi ma = true) (hcan : p_can f hi wi = true) (p : Nat) (hp : p < p_hi f hi * p_wi f wi) (h9 : I 9 = nI ma) (hd : 1 ≤ d) (Q : xO → xH → Prop) (h0 : xH) (B0 : Nat → Nat → Int32) (hly : ∀ t, t < hi * wi * ma → LYA B0 ly t) (a5 a6 a7 a8 a9 a10 : Option Value)
    (hE : ∀ h B, MR g h m A I B wd → MF m A h0 h → FOLDI f hi wi ma ly B0 B p ma → X g l mX3_foldBy d 0 0 Q 314 [some (.ref m), some (.int (nI f)), some (.int (nI (p_hi f hi))), some (.int (nI (p_wi f wi))), some (.int (nI p)), a5, a6, a7, a8, a9, a10, some (.int (nI (p_st f hi wi ma p))), some (.int (nI (p_go f hi wi ma p))), some (.int (nI ma))] [] h 0 0) :
    ∀ n k, k + n = ma → ∀ h B, MR g h m A I B wd → MF m A h0 h → FOLDI f hi wi ma ly B0 B p k → X g l mX3_foldBy d 0 0 Q 234 [some (.ref m), some (.int (nI f)), some (.int (nI (p_hi f hi))), some (.int (nI (p_wi f wi))), some (.int (nI p)), a5, a6, a7, a8, a9, a10, some (.int (nI (p_st f hi wi ma p))), some (.int (nI (p_go f hi wi ma p))), some (.int (nI k))] [] h 0 0 := by
  obtain ⟨b1, b2, b3, b4, b5, b6, b7⟩ := p_ok_b hok
  obtain ⟨f1, f2⟩ := p_can_b hcan
  obtain ⟨x1, x2, x3, x4, x5⟩ := p_fbx hok hcan hp
  intro n
  induction n with
  | zero =>
    intro k hk h B hM hF hO
    have : k = ma := by omega
    subst this
    refine x_iload (M := mX3_foldBy) (pc := 234) dX3_foldBy_234 rfl ?_
    refine x_aload_n (M := mX3_foldBy) (pc := 236) dX3_foldBy_236 rfl ?_
    refine x_get (M := mX3_foldBy) (pc := 237) kcX3 9 rfl q2844 dX3_foldBy_237 hM.1 rfl ?_
    refine x_val (M := mX3_foldBy) (pc := 240) (h9) ?_
    first | with_reducible refine x_icmp_geN (M := mX3_foldBy) (pc := 240) 314 dX3_foldBy_240 (by decide) (by omega) (by omega) (fun c1 => ?_) (fun c1 => ?_) | refine x_icmp_ge (M := mX3_foldBy) (pc := 240) 314 dX3_foldBy_240 (by decide) (fun c1 => ?_) (fun c1 => ?_)
    · exact hE h B hM hF hO
    · omega
  | succ n ih =>
    intro k hk h B hM hF hO
    refine x_iload (M := mX3_foldBy) (pc := 234) dX3_foldBy_234 rfl ?_
    refine x_aload_n (M := mX3_foldBy) (pc := 236) dX3_foldBy_236 rfl ?_
    refine x_get (M := mX3_foldBy) (pc := 237) kcX3 9 rfl q2844 dX3_foldBy_237 hM.1 rfl ?_
    refine x_val (M := mX3_foldBy) (pc := 240) (h9) ?_
    first | with_reducible refine x_icmp_geN (M := mX3_foldBy) (pc := 240) 314 dX3_foldBy_240 (by decide) (by omega) (by omega) (fun c1 => ?_) (fun c1 => ?_) | refine x_icmp_ge (M := mX3_foldBy) (pc := 240) 314 dX3_foldBy_240 (by decide) (fun c1 => ?_) (fun c1 => ?_)
    · omega
    · refine x_aload_n (M := mX3_foldBy) (pc := 243) dX3_foldBy_243 rfl ?_
      refine x_iconst (M := mX3_foldBy) (pc := 244) (v := nI 2) dX3_foldBy_244 (by decide) ?_
      refine x_aload_n (M := mX3_foldBy) (pc := 245) dX3_foldBy_245 rfl ?_
      refine x_get (M := mX3_foldBy) (pc := 246) kcX3 9 rfl q2844 dX3_foldBy_246 hM.1 rfl ?_
      refine x_val (M := mX3_foldBy) (pc := 249) (h9) ?_
      first | with_reducible refine x_imulN (M := mX3_foldBy) (pc := 249) dX3_foldBy_249 ?_ | refine x_imul (M := mX3_foldBy) (pc := 249) dX3_foldBy_249 ?_
      refine x_iload (M := mX3_foldBy) (pc := 250) dX3_foldBy_250 rfl ?_
      first | with_reducible refine x_imulN (M := mX3_foldBy) (pc := 252) dX3_foldBy_252 ?_ | refine x_imul (M := mX3_foldBy) (pc := 252) dX3_foldBy_252 ?_
      refine x_iload (M := mX3_foldBy) (pc := 253) dX3_foldBy_253 rfl ?_
      first | with_reducible refine x_iaddN (M := mX3_foldBy) (pc := 255) dX3_foldBy_255 ?_ | refine x_iadd (M := mX3_foldBy) (pc := 255) dX3_foldBy_255 ?_
      refine x_iload (M := mX3_foldBy) (pc := 256) dX3_foldBy_256 rfl ?_
      refine x_aload_n (M := mX3_foldBy) (pc := 258) dX3_foldBy_258 rfl ?_
      refine x_get (M := mX3_foldBy) (pc := 259) kcX3 9 rfl q2844 dX3_foldBy_259 hM.1 rfl ?_
      refine x_val (M := mX3_foldBy) (pc := 262) (h9) ?_
      first | with_reducible refine x_iaddN (M := mX3_foldBy) (pc := 262) dX3_foldBy_262 ?_ | refine x_iadd (M := mX3_foldBy) (pc := 262) dX3_foldBy_262 ?_
      refine x_iconst (M := mX3_foldBy) (pc := 263) (v := nI 1) dX3_foldBy_263 (by decide) ?_
      first | with_reducible refine x_isubN (M := mX3_foldBy) (pc := 264) dX3_foldBy_264 (by omega) ?_ | refine x_isub (M := mX3_foldBy) (pc := 264) dX3_foldBy_264 ?_
      refine x_iload (M := mX3_foldBy) (pc := 265) dX3_foldBy_265 rfl ?_
      first | with_reducible refine x_isubN (M := mX3_foldBy) (pc := 267) dX3_foldBy_267 (by omega) ?_ | refine x_isub (M := mX3_foldBy) (pc := 267) dX3_foldBy_267 ?_
      refine x_joinV 278 (nI (if f < 3 then 1 else 2)) (fun J => ?_) ?_
      · refine x_iload_n (M := mX3_foldBy) (pc := 268) dX3_foldBy_268 rfl ?_
        refine x_iconst (M := mX3_foldBy) (pc := 269) (v := nI 3) dX3_foldBy_269 (by decide) ?_
        first | with_reducible refine x_icmp_geN (M := mX3_foldBy) (pc := 270) 277 dX3_foldBy_270 (by decide) (by omega) (by omega) (fun c270 => ?_) (fun c270 => ?_) | refine x_icmp_ge (M := mX3_foldBy) (pc := 270) 277 dX3_foldBy_270 (by decide) (fun c270 => ?_) (fun c270 => ?_)
        · refine x_iconst (M := mX3_foldBy) (pc := 277) (v := nI 2) dX3_foldBy_277 (by decide) ?_
          exact J _ (by first | rw [if_pos (by omega)] | rw [if_neg (by omega)])
        · refine x_iconst (M := mX3_foldBy) (pc := 273) (v := nI 1) dX3_foldBy_273 (by decide) ?_
          refine x_goto (M := mX3_foldBy) (pc := 274) 278 dX3_foldBy_274 (by decide) ?_
          exact J _ (by first | rw [if_pos (by omega)] | rw [if_neg (by omega)])
      refine x_V3 (M := mX3_foldBy) (pc := 278) (M' := mX3_takeLayer) q2964 kVX3_takeLayer dX3_foldBy_278 (m_takeLayer (d - 1) (2 * ma * p + k) (p_go f hi wi ma p + ma - 1 - k) (if f < 3 then 1 else 2) (by omega) (by omega) (by split <;> omega) h hM) (hM.is) (fun v_ h hq_ => ?_)
      obtain ⟨v_, I_, B_, wd_, hv_, hQ, hM_, hF_⟩ := hq_
      cases hv_
      replace hF := hF.tr hF_
      replace hM := hM_
      clear hM_ hF_
      obtain ⟨e1_, e2_, e3_, e4_⟩ := hQ; rw [e2_, e3_, e4_] at hM; subst e1_; clear e2_ e3_ e4_
      refine x_aload_n (M := mX3_foldBy) (pc := 281) dX3_foldBy_281 rfl ?_
      refine x_iconst (M := mX3_foldBy) (pc := 282) (v := nI 2) dX3_foldBy_282 (by decide) ?_
      refine x_aload_n (M := mX3_foldBy) (pc := 283) dX3_foldBy_283 rfl ?_
      refine x_get (M := mX3_foldBy) (pc := 284) kcX3 9 rfl q2844 dX3_foldBy_284 hM.1 rfl ?_
      refine x_val (M := mX3_foldBy) (pc := 287) (h9) ?_
      first | with_reducible refine x_imulN (M := mX3_foldBy) (pc := 287) dX3_foldBy_287 ?_ | refine x_imul (M := mX3_foldBy) (pc := 287) dX3_foldBy_287 ?_
      refine x_iload (M := mX3_foldBy) (pc := 288) dX3_foldBy_288 rfl ?_
      first | with_reducible refine x_imulN (M := mX3_foldBy) (pc := 290) dX3_foldBy_290 ?_ | refine x_imul (M := mX3_foldBy) (pc := 290) dX3_foldBy_290 ?_
      refine x_aload_n (M := mX3_foldBy) (pc := 291) dX3_foldBy_291 rfl ?_
      refine x_get (M := mX3_foldBy) (pc := 292) kcX3 9 rfl q2844 dX3_foldBy_292 hM.1 rfl ?_
      refine x_val (M := mX3_foldBy) (pc := 295) (h9) ?_
      first | with_reducible refine x_iaddN (M := mX3_foldBy) (pc := 295) dX3_foldBy_295 ?_ | refine x_iadd (M := mX3_foldBy) (pc := 295) dX3_foldBy_295 ?_
      refine x_iload (M := mX3_foldBy) (pc := 296) dX3_foldBy_296 rfl ?_
      first | with_reducible refine x_iaddN (M := mX3_foldBy) (pc := 298) dX3_foldBy_298 ?_ | refine x_iadd (M := mX3_foldBy) (pc := 298) dX3_foldBy_298 ?_
      refine x_iload (M := mX3_foldBy) (pc := 299) dX3_foldBy_299 rfl ?_
      refine x_iload (M := mX3_foldBy) (pc := 301) dX3_foldBy_301 rfl ?_
      first | with_reducible refine x_iaddN (M := mX3_foldBy) (pc := 303) dX3_foldBy_303 ?_ | refine x_iadd (M := mX3_foldBy) (pc := 303) dX3_foldBy_303 ?_
      refine x_iconst (M := mX3_foldBy) (pc := 304) (v := nI 0) dX3_foldBy_304 (by decide) ?_
      refine x_V3 (M := mX3_foldBy) (pc := 305) (M' := mX3_takeLayer) q2964 kVX3_takeLayer dX3_foldBy_305 (m_takeLayer (d - 1) (2 * ma * p + ma + k) (p_st f hi wi ma p + k) 0 (by omega) (by omega) (by omega) h hM) (hM.is) (fun v_ h hq_ => ?_)
      obtain ⟨v_, I_, B_, wd_, hv_, hQ, hM_, hF_⟩ := hq_
      cases hv_
      replace hF := hF.tr hF_
      replace hM := hM_
      clear hM_ hF_
      obtain ⟨e1_, e2_, e3_, e4_⟩ := hQ; rw [e2_, e3_, e4_] at hM; subst e1_; clear e2_ e3_ e4_
      first | refine x_iinc13N (M := mX3_foldBy) (pc := 308) (c := 1) dX3_foldBy_308 oI1 ?_ | refine x_iinc13 (M := mX3_foldBy) (pc := 308) (c := 1) dX3_foldBy_308 (by decide) ?_
      refine x_goto (M := mX3_foldBy) (pc := 311) 234 dX3_foldBy_311 (by decide) ?_
      refine ih (k + 1) (by omega) h _ hM hF ⟨fun j hj => ?_, fun t ht => ?_, fun t ht => ?_⟩
      · have e1 := hO.1 j hj
        rw [p_take_fr (by omega), p_take_fr (by omega), e1]
      · have e1 := hO.2.1 t ht
        simp [p_take, e1]
      · have hg : ∀ q, q < hi * wi * ma → B 14 q = nI (ly q).1 ∧ B 15 q = bI (p_side (ly q)) ∧ B 16 q = bI (ly q).2.1 ∧ B 17 q = bI (ly q).2.2 := fun q hq => by
          obtain ⟨z1, z2, z3, z4⟩ := hO.2.1 q (by omega)
          rw [z1, z2, z3, z4]; exact hly q hq
        by_cases t1 : t = 2 * ma * p + k
        · subst t1
          have q1 := (take_at (f := f) (to := 2 * ma * p + k) (hg (p_go f hi wi ma p + ma - 1 - k) (by omega))).2
          have e1 := p_fold_lo f hi wi ma ly p k (by omega)
          rw [show p_go f hi wi ma p + (ma - 1 - k) = p_go f hi wi ma p + ma - 1 - k by omega] at e1
          unfold LYA
          rw [e1]
          have n1 : ¬ (2 * ma * p + k = 2 * ma * p + ma + k) := by omega
          exact ⟨(p_take_ne n1).trans q1.1, (p_take_ne n1).trans q1.2.1, (p_take_ne n1).trans q1.2.2.1, (p_take_ne n1).trans q1.2.2.2⟩
        · by_cases t2 : t = 2 * ma * p + ma + k
          · subst t2
            have hg2 : ∀ (q j : Nat), 13 < j → p_take B (2 * ma * p + k) (p_go f hi wi ma p + ma - 1 - k) (if f < 3 then 1 else 2) j q = B j q := fun q j hj => by
              have a1 : ¬ j = 10 := by omega
              have a2 : ¬ j = 11 := by omega
              have a3 : ¬ j = 12 := by omega
              have a4 : ¬ j = 13 := by omega
              simp [p_take, a1, a2, a3, a4]
            have q1 := (take_at (f := f) (to := 2 * ma * p + ma + k) (fr := p_st f hi wi ma p + k) (B := p_take B (2 * ma * p + k) (p_go f hi wi ma p + ma - 1 - k) (if f < 3 then 1 else 2)) (x := ly (p_st f hi wi ma p + k)) (by rw [hg2 _ 14 (by omega), hg2 _ 15 (by omega), hg2 _ 16 (by omega), hg2 _ 17 (by omega)]; exact hg _ (by omega))).1
            unfold LYA
            rw [p_fold_hi f hi wi ma ly p k (by omega)]
            exact q1
          · have e1 := hO.2.2 t (by omega)
            unfold LYA at e1 ⊢
            simp only [p_take, if_neg t1, if_neg t2]
            exact e1
theorem m_foldBy_l2 (d f hi wi ma : Nat) (ly : Nat → Lay) (hok : p_ok hi wi ma = true) (hcan : p_can f hi wi = true) (h7 : I 7 = nI hi) (h8 : I 8 = nI wi) (h9 : I 9 = nI ma) (hd : 1 ≤ d) (Q : xO → xH → Prop) (h0 : xH) (B0 : Nat → Nat → Int32) (hly : ∀ t, t < hi * wi * ma → LYA B0 ly t)
    (hE : ∀ h B, MR g h m A I B wd → MF m A h0 h → FOLDI f hi wi ma ly B0 B (p_hi f hi * p_wi f wi) 0 → ∀ a4 a5 a6 a7 a8 a9 a10 a11 a12 a13, X g l mX3_foldBy d 0 0 Q 320 [some (.ref m), some (.int (nI f)), some (.int (nI (p_hi f hi))), some (.int (nI (p_wi f wi))), a4, a5, a6, a7, a8, a9, a10, a11, a12, a13] [] h 0 0) :
    ∀ n p, p + n = p_hi f hi * p_wi f wi → ∀ h B, MR g h m A I B wd → MF m A h0 h → FOLDI f hi wi ma ly B0 B p 0 → ∀ a5 a6 a7 a8 a9 a10 a11 a12 a13, X g l mX3_foldBy d 0 0 Q 103 [some (.ref m), some (.int (nI f)), some (.int (nI (p_hi f hi))), some (.int (nI (p_wi f wi))), some (.int (nI p)), a5, a6, a7, a8, a9, a10, a11, a12, a13] [] h 0 0 := by
  obtain ⟨b1, b2, b3, b4, b5, b6, b7⟩ := p_ok_b hok
  obtain ⟨f1, f2⟩ := p_can_b hcan
  obtain ⟨y1, y2, y3, y4⟩ := p_okf hok hcan
  obtain ⟨w1, w2, -⟩ := p_ok_b y1
  intro n
  induction n with
  | zero =>
    intro p hp h B hM hF hO a5 a6 a7 a8 a9 a10 a11 a12 a13
    have : p = p_hi f hi * p_wi f wi := by omega
    subst this
    refine x_iload (M := mX3_foldBy) (pc := 103) dX3_foldBy_103 rfl ?_
    refine x_iload_n (M := mX3_foldBy) (pc := 105) dX3_foldBy_105 rfl ?_
    refine x_iload_n (M := mX3_foldBy) (pc := 106) dX3_foldBy_106 rfl ?_
    first | with_reducible refine x_imulN (M := mX3_foldBy) (pc := 107) dX3_foldBy_107 ?_ | refine x_imul (M := mX3_foldBy) (pc := 107) dX3_foldBy_107 ?_
    first | with_reducible refine x_icmp_geN (M := mX3_foldBy) (pc := 108) 320 dX3_foldBy_108 (by decide) (by omega) (by omega) (fun c1 => ?_) (fun c1 => ?_) | refine x_icmp_ge (M := mX3_foldBy) (pc := 108) 320 dX3_foldBy_108 (by decide) (fun c1 => ?_) (fun c1 => ?_)
    · exact hE h B hM hF hO _ _ _ _ _ _ _ _ _ _
    · omega
  | succ n ih =>
    intro p hp h B hM hF hO a5 a6 a7 a8 a9 a10 a11 a12 a13
    have hpl : p < p_hi f hi * p_wi f wi := by omega
    obtain ⟨x1, x2, x3, x4, x5⟩ := p_fbx hok hcan hpl
    refine x_iload (M := mX3_foldBy) (pc := 103) dX3_foldBy_103 rfl ?_
    refine x_iload_n (M := mX3_foldBy) (pc := 105) dX3_foldBy_105 rfl ?_
    refine x_iload_n (M := mX3_foldBy) (pc := 106) dX3_foldBy_106 rfl ?_
    first | with_reducible refine x_imulN (M := mX3_foldBy) (pc := 107) dX3_foldBy_107 ?_ | refine x_imul (M := mX3_foldBy) (pc := 107) dX3_foldBy_107 ?_
    first | with_reducible refine x_icmp_geN (M := mX3_foldBy) (pc := 108) 320 dX3_foldBy_108 (by decide) (by omega) (by omega) (fun c1 => ?_) (fun c1 => ?_) | refine x_icmp_ge (M := mX3_foldBy) (pc := 108) 320 dX3_foldBy_108 (by decide) (fun c1 => ?_) (fun c1 => ?_)
    · omega
    · refine x_iload (M := mX3_foldBy) (pc := 111) dX3_foldBy_111 rfl ?_
      refine x_iload_n (M := mX3_foldBy) (pc := 113) dX3_foldBy_113 rfl ?_
      first | with_reducible refine x_idivN (M := mX3_foldBy) (pc := 114) dX3_foldBy_114 (by omega) (by omega) (by omega) ?_ | refine x_idiv (M := mX3_foldBy) (pc := 114) dX3_foldBy_114 (by first | decide | assumption) ?_
      refine x_istore5 (M := mX3_foldBy) (pc := 115) dX3_foldBy_115 ?_
      refine x_iload (M := mX3_foldBy) (pc := 117) dX3_foldBy_117 rfl ?_
      refine x_iload_n (M := mX3_foldBy) (pc := 119) dX3_foldBy_119 rfl ?_
      first | with_reducible refine x_iremN (M := mX3_foldBy) (pc := 120) dX3_foldBy_120 (by omega) (by omega) (by omega) ?_ | refine x_irem (M := mX3_foldBy) (pc := 120) dX3_foldBy_120 (by first | decide | assumption) ?_
      refine x_istore6 (M := mX3_foldBy) (pc := 121) dX3_foldBy_121 ?_
      refine x_joinV 137 (nI (p_sr f (p / p_wi f wi) (p_hi f hi))) (fun J => ?_) ?_
      · refine x_iload_n (M := mX3_foldBy) (pc := 123) dX3_foldBy_123 rfl ?_
        refine x_iconst (M := mX3_foldBy) (pc := 124) (v := nI 3) dX3_foldBy_124 (by decide) ?_
        first | with_reducible refine x_icmp_neN (M := mX3_foldBy) (pc := 125) 135 dX3_foldBy_125 (by decide) (by omega) (by omega) (fun c125 => ?_) (fun c125 => ?_) | refine x_icmp_ne (M := mX3_foldBy) (pc := 125) 135 dX3_foldBy_125 (by decide) (fun c125 => ?_) (fun c125 => ?_)
        · refine x_iload (M := mX3_foldBy) (pc := 135) dX3_foldBy_135 rfl ?_
          exact J _ (by first | rw [p_sr, if_pos (by omega)] | rw [p_sr, if_neg (by omega)])
        · refine x_iload (M := mX3_foldBy) (pc := 128) dX3_foldBy_128 rfl ?_
          refine x_iload_n (M := mX3_foldBy) (pc := 130) dX3_foldBy_130 rfl ?_
          first | with_reducible refine x_iaddN (M := mX3_foldBy) (pc := 131) dX3_foldBy_131 ?_ | refine x_iadd (M := mX3_foldBy) (pc := 131) dX3_foldBy_131 ?_
          refine x_goto (M := mX3_foldBy) (pc := 132) 137 dX3_foldBy_132 (by decide) ?_
          exact J _ (by first | rw [p_sr, if_pos (by omega)] | rw [p_sr, if_neg (by omega)])
      refine x_istore7 (M := mX3_foldBy) (pc := 137) dX3_foldBy_137 ?_
      refine x_joinV 153 (nI (p_sc f (p % p_wi f wi) (p_wi f wi))) (fun J => ?_) ?_
      · refine x_iload_n (M := mX3_foldBy) (pc := 139) dX3_foldBy_139 rfl ?_
        refine x_iconst (M := mX3_foldBy) (pc := 140) (v := nI 1) dX3_foldBy_140 (by decide) ?_
        first | with_reducible refine x_icmp_neN (M := mX3_foldBy) (pc := 141) 151 dX3_foldBy_141 (by decide) (by omega) (by omega) (fun c141 => ?_) (fun c141 => ?_) | refine x_icmp_ne (M := mX3_foldBy) (pc := 141) 151 dX3_foldBy_141 (by decide) (fun c141 => ?_) (fun c141 => ?_)
        · refine x_iload (M := mX3_foldBy) (pc := 151) dX3_foldBy_151 rfl ?_
          exact J _ (by first | rw [p_sc, if_pos (by omega)] | rw [p_sc, if_neg (by omega)])
        · refine x_iload (M := mX3_foldBy) (pc := 144) dX3_foldBy_144 rfl ?_
          refine x_iload_n (M := mX3_foldBy) (pc := 146) dX3_foldBy_146 rfl ?_
          first | with_reducible refine x_iaddN (M := mX3_foldBy) (pc := 147) dX3_foldBy_147 ?_ | refine x_iadd (M := mX3_foldBy) (pc := 147) dX3_foldBy_147 ?_
          refine x_goto (M := mX3_foldBy) (pc := 148) 153 dX3_foldBy_148 (by decide) ?_
          exact J _ (by first | rw [p_sc, if_pos (by omega)] | rw [p_sc, if_neg (by omega)])
      refine x_istore8 (M := mX3_foldBy) (pc := 153) dX3_foldBy_153 ?_
      refine x_joinV 174 (nI (p_gr f hi (p / p_wi f wi) (p_sr f (p / p_wi f wi) (p_hi f hi)))) (fun J => ?_) ?_
      · refine x_iload_n (M := mX3_foldBy) (pc := 155) dX3_foldBy_155 rfl ?_
        refine x_iconst (M := mX3_foldBy) (pc := 156) (v := nI 3) dX3_foldBy_156 (by decide) ?_
        first | with_reducible refine x_icmp_geN (M := mX3_foldBy) (pc := 157) 165 dX3_foldBy_157 (by decide) (by omega) (by omega) (fun c157 => ?_) (fun c157 => ?_) | refine x_icmp_ge (M := mX3_foldBy) (pc := 157) 165 dX3_foldBy_157 (by decide) (fun c157 => ?_) (fun c157 => ?_)
        · refine x_aload_n (M := mX3_foldBy) (pc := 165) dX3_foldBy_165 rfl ?_
          refine x_get (M := mX3_foldBy) (pc := 166) kcX3 7 rfl q2842 dX3_foldBy_166 hM.1 rfl ?_
          refine x_val (M := mX3_foldBy) (pc := 169) (h7) ?_
          refine x_iconst (M := mX3_foldBy) (pc := 169) (v := nI 1) dX3_foldBy_169 (by decide) ?_
          first | with_reducible refine x_isubN (M := mX3_foldBy) (pc := 170) dX3_foldBy_170 (by omega) ?_ | refine x_isub (M := mX3_foldBy) (pc := 170) dX3_foldBy_170 ?_
          refine x_iload (M := mX3_foldBy) (pc := 171) dX3_foldBy_171 rfl ?_
          first | with_reducible refine x_isubN (M := mX3_foldBy) (pc := 173) dX3_foldBy_173 (by omega) ?_ | refine x_isub (M := mX3_foldBy) (pc := 173) dX3_foldBy_173 ?_
          exact J _ (by first | rw [p_gr, if_pos (by omega)] | rw [p_gr, if_neg (by omega)])
        · refine x_iload (M := mX3_foldBy) (pc := 160) dX3_foldBy_160 rfl ?_
          refine x_goto (M := mX3_foldBy) (pc := 162) 174 dX3_foldBy_162 (by decide) ?_
          exact J _ (by first | rw [p_gr, if_pos (by omega)] | rw [p_gr, if_neg (by omega)])
      refine x_istore9 (M := mX3_foldBy) (pc := 174) dX3_foldBy_174 ?_
      refine x_joinV 195 (nI (p_gc f wi (p % p_wi f wi) (p_sc f (p % p_wi f wi) (p_wi f wi)))) (fun J => ?_) ?_
      · refine x_iload_n (M := mX3_foldBy) (pc := 176) dX3_foldBy_176 rfl ?_
        refine x_iconst (M := mX3_foldBy) (pc := 177) (v := nI 3) dX3_foldBy_177 (by decide) ?_
        first | with_reducible refine x_icmp_geN (M := mX3_foldBy) (pc := 178) 193 dX3_foldBy_178 (by decide) (by omega) (by omega) (fun c178 => ?_) (fun c178 => ?_) | refine x_icmp_ge (M := mX3_foldBy) (pc := 178) 193 dX3_foldBy_178 (by decide) (fun c178 => ?_) (fun c178 => ?_)
        · refine x_iload (M := mX3_foldBy) (pc := 193) dX3_foldBy_193 rfl ?_
          exact J _ (by first | rw [p_gc, if_pos (by omega)] | rw [p_gc, if_neg (by omega)])
        · refine x_aload_n (M := mX3_foldBy) (pc := 181) dX3_foldBy_181 rfl ?_
          refine x_get (M := mX3_foldBy) (pc := 182) kcX3 8 rfl q2843 dX3_foldBy_182 hM.1 rfl ?_
          refine x_val (M := mX3_foldBy) (pc := 185) (h8) ?_
          refine x_iconst (M := mX3_foldBy) (pc := 185) (v := nI 1) dX3_foldBy_185 (by decide) ?_
          first | with_reducible refine x_isubN (M := mX3_foldBy) (pc := 186) dX3_foldBy_186 (by omega) ?_ | refine x_isub (M := mX3_foldBy) (pc := 186) dX3_foldBy_186 ?_
          refine x_iload (M := mX3_foldBy) (pc := 187) dX3_foldBy_187 rfl ?_
          first | with_reducible refine x_isubN (M := mX3_foldBy) (pc := 189) dX3_foldBy_189 (by omega) ?_ | refine x_isub (M := mX3_foldBy) (pc := 189) dX3_foldBy_189 ?_
          refine x_goto (M := mX3_foldBy) (pc := 190) 195 dX3_foldBy_190 (by decide) ?_
          exact J _ (by first | rw [p_gc, if_pos (by omega)] | rw [p_gc, if_neg (by omega)])
      refine x_istore10 (M := mX3_foldBy) (pc := 195) dX3_foldBy_195 ?_
      refine x_aload_n (M := mX3_foldBy) (pc := 197) dX3_foldBy_197 rfl ?_
      refine x_get (M := mX3_foldBy) (pc := 198) kcX3 9 rfl q2844 dX3_foldBy_198 hM.1 rfl ?_
      refine x_val (M := mX3_foldBy) (pc := 201) (h9) ?_
      refine x_aload_n (M := mX3_foldBy) (pc := 201) dX3_foldBy_201 rfl ?_
      refine x_get (M := mX3_foldBy) (pc := 202) kcX3 8 rfl q2843 dX3_foldBy_202 hM.1 rfl ?_
      refine x_val (M := mX3_foldBy) (pc := 205) (h8) ?_
      refine x_iload (M := mX3_foldBy) (pc := 205) dX3_foldBy_205 rfl ?_
      first | with_reducible refine x_imulN (M := mX3_foldBy) (pc := 207) dX3_foldBy_207 ?_ | refine x_imul (M := mX3_foldBy) (pc := 207) dX3_foldBy_207 ?_
      refine x_iload (M := mX3_foldBy) (pc := 208) dX3_foldBy_208 rfl ?_
      first | with_reducible refine x_iaddN (M := mX3_foldBy) (pc := 210) dX3_foldBy_210 ?_ | refine x_iadd (M := mX3_foldBy) (pc := 210) dX3_foldBy_210 ?_
      first | with_reducible refine x_imulN (M := mX3_foldBy) (pc := 211) dX3_foldBy_211 ?_ | refine x_imul (M := mX3_foldBy) (pc := 211) dX3_foldBy_211 ?_
      refine x_val (M := mX3_foldBy) (pc := 212) ((rfl : _ = nI (p_st f hi wi ma p))) ?_
      refine x_istore11 (M := mX3_foldBy) (pc := 212) dX3_foldBy_212 ?_
      refine x_aload_n (M := mX3_foldBy) (pc := 214) dX3_foldBy_214 rfl ?_
      refine x_get (M := mX3_foldBy) (pc := 215) kcX3 9 rfl q2844 dX3_foldBy_215 hM.1 rfl ?_
      refine x_val (M := mX3_foldBy) (pc := 218) (h9) ?_
      refine x_aload_n (M := mX3_foldBy) (pc := 218) dX3_foldBy_218 rfl ?_
      refine x_get (M := mX3_foldBy) (pc := 219) kcX3 8 rfl q2843 dX3_foldBy_219 hM.1 rfl ?_
      refine x_val (M := mX3_foldBy) (pc := 222) (h8) ?_
      refine x_iload (M := mX3_foldBy) (pc := 222) dX3_foldBy_222 rfl ?_
      first | with_reducible refine x_imulN (M := mX3_foldBy) (pc := 224) dX3_foldBy_224 ?_ | refine x_imul (M := mX3_foldBy) (pc := 224) dX3_foldBy_224 ?_
      refine x_iload (M := mX3_foldBy) (pc := 225) dX3_foldBy_225 rfl ?_
      first | with_reducible refine x_iaddN (M := mX3_foldBy) (pc := 227) dX3_foldBy_227 ?_ | refine x_iadd (M := mX3_foldBy) (pc := 227) dX3_foldBy_227 ?_
      first | with_reducible refine x_imulN (M := mX3_foldBy) (pc := 228) dX3_foldBy_228 ?_ | refine x_imul (M := mX3_foldBy) (pc := 228) dX3_foldBy_228 ?_
      refine x_val (M := mX3_foldBy) (pc := 229) ((rfl : _ = nI (p_go f hi wi ma p))) ?_
      refine x_istore12 (M := mX3_foldBy) (pc := 229) dX3_foldBy_229 ?_
      refine x_iconst (M := mX3_foldBy) (pc := 231) (v := nI 0) dX3_foldBy_231 (by decide) ?_
      refine x_istore13 (M := mX3_foldBy) (pc := 232) dX3_foldBy_232 ?_
      refine m_foldBy_l3 d f hi wi ma ly hok hcan p hpl h9 hd Q h0 B0 hly _ _ _ _ _ _ (fun h B hM hF hO => ?_) ma 0 (Nat.zero_add _) h B hM hF hO
      first | refine x_iinc4N (M := mX3_foldBy) (pc := 314) (c := 1) dX3_foldBy_314 oI1 ?_ | refine x_iinc4 (M := mX3_foldBy) (pc := 314) (c := 1) dX3_foldBy_314 (by decide) ?_
      refine x_goto (M := mX3_foldBy) (pc := 317) 103 dX3_foldBy_317 (by decide) ?_
      refine ih (p + 1) (by omega) h B hM hF ⟨hO.1, hO.2.1, fun t ht => hO.2.2 t ?_⟩ _ _ _ _ _ _ _ _ _
      rw [Nat.mul_add] at ht
      omega
theorem m_foldBy (d f hi wi ma : Nat) (ly : Nat → Lay) (hok : p_ok hi wi ma = true) (hcan : p_can f hi wi = true) (hL : LAY I B hi wi ma ly) (hd : 1 ≤ d) : MC g l mX3_foldBy d [.int (nI f)] m A I B wd (fun v I' B' wd' => v = none ∧ LF I B wd I' B' wd' ∧ LAY I' B' (p_hi f hi) (p_wi f wi) (2 * ma) (p_fold f hi wi ma ly)) := by
  intro h hM
  have hF : MF m A h h := MF.rf
  obtain ⟨h7, h8, h9, hly⟩ := hL
  obtain ⟨b1, b2, b3, b4, b5, b6, b7⟩ := p_ok_b hok
  obtain ⟨f1, f2⟩ := p_can_b hcan
  obtain ⟨y1, y2, y3, y4⟩ := p_okf hok hcan
  refine Ct.of [some (.ref m), some (.int (nI f)), none, none, none, none, none, none, none, none, none, none, none, none] (by decide +kernel) rfl (Nat.le_of_ble_eq_true rfl) rfl rfl ?_
  refine x_iconst (M := mX3_foldBy) (pc := 0) (v := nI 0) dX3_foldBy_0 (by decide) ?_
  refine x_istore2 (M := mX3_foldBy) (pc := 1) dX3_foldBy_1 ?_
  refine m_foldBy_l1 d _ _ _ _ _ _ _ _ _ _ _ _ (fun w hw => by cases hw; rfl) _ h B (fun h B' hM hF hO => ?_) 16 0 rfl h B hM hF ⟨fun _ _ => rfl, fun t ht => absurd ht (by omega)⟩
  refine x_joinV 80 (nI (p_hi f hi)) (fun J => ?_) ?_
  · refine x_iload_n (M := mX3_foldBy) (pc := 62) dX3_foldBy_62 rfl ?_
    refine x_iconst (M := mX3_foldBy) (pc := 63) (v := nI 3) dX3_foldBy_63 (by decide) ?_
    first | with_reducible refine x_icmp_geN (M := mX3_foldBy) (pc := 64) 74 dX3_foldBy_64 (by decide) (by omega) (by omega) (fun c64 => ?_) (fun c64 => ?_) | refine x_icmp_ge (M := mX3_foldBy) (pc := 64) 74 dX3_foldBy_64 (by decide) (fun c64 => ?_) (fun c64 => ?_)
    · refine x_aload_n (M := mX3_foldBy) (pc := 74) dX3_foldBy_74 rfl ?_
      refine x_get (M := mX3_foldBy) (pc := 75) kcX3 7 rfl q2842 dX3_foldBy_75 hM.1 rfl ?_
      refine x_val (M := mX3_foldBy) (pc := 78) (h7) ?_
      refine x_iconst (M := mX3_foldBy) (pc := 78) (v := nI 2) dX3_foldBy_78 (by decide) ?_
      first | with_reducible refine x_idivN (M := mX3_foldBy) (pc := 79) dX3_foldBy_79 (by omega) (by omega) (by omega) ?_ | refine x_idiv (M := mX3_foldBy) (pc := 79) dX3_foldBy_79 (by first | decide | assumption) ?_
      exact J _ (by first | rw [p_hi, if_pos (by omega)] | rw [p_hi, if_neg (by omega)])
    · refine x_aload_n (M := mX3_foldBy) (pc := 67) dX3_foldBy_67 rfl ?_
      refine x_get (M := mX3_foldBy) (pc := 68) kcX3 7 rfl q2842 dX3_foldBy_68 hM.1 rfl ?_
      refine x_val (M := mX3_foldBy) (pc := 71) (h7) ?_
      refine x_goto (M := mX3_foldBy) (pc := 71) 80 dX3_foldBy_71 (by decide) ?_
      exact J _ (by first | rw [p_hi, if_pos (by omega)] | rw [p_hi, if_neg (by omega)])
  refine x_istore2 (M := mX3_foldBy) (pc := 80) dX3_foldBy_80 ?_
  refine x_joinV 99 (nI (p_wi f wi)) (fun J => ?_) ?_
  · refine x_iload_n (M := mX3_foldBy) (pc := 81) dX3_foldBy_81 rfl ?_
    refine x_iconst (M := mX3_foldBy) (pc := 82) (v := nI 3) dX3_foldBy_82 (by decide) ?_
    first | with_reducible refine x_icmp_geN (M := mX3_foldBy) (pc := 83) 95 dX3_foldBy_83 (by decide) (by omega) (by omega) (fun c83 => ?_) (fun c83 => ?_) | refine x_icmp_ge (M := mX3_foldBy) (pc := 83) 95 dX3_foldBy_83 (by decide) (fun c83 => ?_) (fun c83 => ?_)
    · refine x_aload_n (M := mX3_foldBy) (pc := 95) dX3_foldBy_95 rfl ?_
      refine x_get (M := mX3_foldBy) (pc := 96) kcX3 8 rfl q2843 dX3_foldBy_96 hM.1 rfl ?_
      refine x_val (M := mX3_foldBy) (pc := 99) (h8) ?_
      exact J _ (by first | rw [p_wi, if_pos (by omega)] | rw [p_wi, if_neg (by omega)])
    · refine x_aload_n (M := mX3_foldBy) (pc := 86) dX3_foldBy_86 rfl ?_
      refine x_get (M := mX3_foldBy) (pc := 87) kcX3 8 rfl q2843 dX3_foldBy_87 hM.1 rfl ?_
      refine x_val (M := mX3_foldBy) (pc := 90) (h8) ?_
      refine x_iconst (M := mX3_foldBy) (pc := 90) (v := nI 2) dX3_foldBy_90 (by decide) ?_
      first | with_reducible refine x_idivN (M := mX3_foldBy) (pc := 91) dX3_foldBy_91 (by omega) (by omega) (by omega) ?_ | refine x_idiv (M := mX3_foldBy) (pc := 91) dX3_foldBy_91 (by first | decide | assumption) ?_
      refine x_goto (M := mX3_foldBy) (pc := 92) 99 dX3_foldBy_92 (by decide) ?_
      exact J _ (by first | rw [p_wi, if_pos (by omega)] | rw [p_wi, if_neg (by omega)])
  refine x_istore3 (M := mX3_foldBy) (pc := 99) dX3_foldBy_99 ?_
  refine x_iconst (M := mX3_foldBy) (pc := 100) (v := nI 0) dX3_foldBy_100 (by decide) ?_
  refine x_istore4 (M := mX3_foldBy) (pc := 101) dX3_foldBy_101 ?_
  refine m_foldBy_l2 d f hi wi ma ly hok hcan h7 h8 h9 hd _ _ B hly (fun h B' hM hF hO a4 a5 a6 a7 a8 a9 a10 a11 a12 a13 => ?_) (p_hi f hi * p_wi f wi) 0 (Nat.zero_add _) h B' hM hF ⟨fun j hj => hO.1 j (by omega), hO.2, fun t ht => absurd ht (by omega)⟩ _ _ _ _ _ _ _ _ _
  refine x_aload_n (M := mX3_foldBy) (pc := 320) dX3_foldBy_320 rfl ?_
  refine x_iload_n (M := mX3_foldBy) (pc := 321) dX3_foldBy_321 rfl ?_
  refine xm_put7 (M := mX3_foldBy) (pc := 322) hM hF q2842 dX3_foldBy_322 (fun h hM hF => ?_)
  refine x_aload_n (M := mX3_foldBy) (pc := 325) dX3_foldBy_325 rfl ?_
  refine x_iload_n (M := mX3_foldBy) (pc := 326) dX3_foldBy_326 rfl ?_
  refine xm_put8 (M := mX3_foldBy) (pc := 327) hM hF q2843 dX3_foldBy_327 (fun h hM hF => ?_)
  refine x_aload_n (M := mX3_foldBy) (pc := 330) dX3_foldBy_330 rfl ?_
  refine x_iconst (M := mX3_foldBy) (pc := 331) (v := nI 2) dX3_foldBy_331 (by decide) ?_
  refine x_aload_n (M := mX3_foldBy) (pc := 332) dX3_foldBy_332 rfl ?_
  refine x_get (M := mX3_foldBy) (pc := 333) kcX3 9 rfl q2844 dX3_foldBy_333 hM.1 rfl ?_
  refine x_val (M := mX3_foldBy) (pc := 336) ((by simp [upd, h9] : _ = nI ma)) ?_
  first | with_reducible refine x_imulN (M := mX3_foldBy) (pc := 336) dX3_foldBy_336 ?_ | refine x_imul (M := mX3_foldBy) (pc := 336) dX3_foldBy_336 ?_
  refine xm_put9 (M := mX3_foldBy) (pc := 337) hM hF q2844 dX3_foldBy_337 (fun h hM hF => ?_)
  refine x_vret (M := mX3_foldBy) (pc := 340) dX3_foldBy_340 rfl (Nat.le_refl 0) (Nat.le_refl 0) ⟨_, _, _, _, rfl, ?_, hM, hF⟩
  refine ⟨rfl, ⟨fun j e1 e2 e3 => by simp [upd, e1, e2, e3], fun j hj => hO.1 j hj, rfl⟩, by simp [upd], by simp [upd], by simp [upd], fun t ht => hO.2.2 t ?_⟩
  rw [show 2 * ma * (p_hi f hi * p_wi f wi) = p_hi f hi * p_wi f wi * (2 * ma) by rw [Nat.mul_comm]]
  omega
end MODEL4

/-! java.util.TreeMap: cells, rotations (by program) -/
section JDKTM
set_option maxRecDepth 100000
def tcell (K : Nat → Nat) (V : Nat → Option Nat) (L R P : Nat → Option Nat) (C : Nat → Bool) (n : Nat) : va_E := .inr (37, [.ref (K n), va_rf (V n), va_rf (L n), va_rf (R n), va_rf (P n), .int (bI (C n))])
def tobj (rt : Option Nat) (sz md : Int32) (nk : Option Nat) : va_E := .inr (35, [.null, .null, .null, va_rf rt, .int sz, .int md, .null, va_rf nk, .null])
/-- the map's object tm is o, its entries ns hold what the functions say -/
def TN (h : xH) (tm : Nat) (o : va_E) (ns : List Nat) (K : Nat → Nat) (V : Nat → Option Nat) (L R P : Nat → Option Nat) (C : Nat → Bool) : Prop := h tm = some o ∧ (∀ n ∈ ns, h n = some (tcell K V L R P C n)) ∧ tm ∉ ns
/-- nothing but the map and its entries has changed -/
def TF (tm : Nat) (ns : List Nat) (h h' : xH) : Prop := ∀ q e, q ≠ tm → q ∉ ns → h q = some e → h' q = some e
theorem TF.rf {tm : Nat} {ns : List Nat} {h : xH} : TF tm ns h h := fun _ _ _ _ z => z
theorem TF.tr {tm : Nat} {ns : List Nat} {h h1 h2 : xH} (a : TF tm ns h h1) (b : TF tm ns h1 h2) : TF tm ns h h2 := fun q e n1 n2 z => b q e n1 n2 (a q e n1 n2 z)
theorem TN.up {h : xH} {tm : Nat} {o : va_E} {ns : List Nat} {K K' : Nat → Nat} {V V' : Nat → Option Nat} {L R P L' R' P' : Nat → Option Nat} {C C' : Nat → Bool} (hT : TN h tm o ns K V L R P C) (n : Nat) (hn : n ∈ ns) (he : ∀ m, m ≠ n → tcell K' V' L' R' P' C' m = tcell K V L R P C m) : TN (xu h n (tcell K' V' L' R' P' C' n)) tm o ns K' V' L' R' P' C' :=
  ⟨(xu_n (fun e => hT.2.2 (by rw [e]; exact hn))).trans hT.1, fun m hm => by
    by_cases e : m = n
    · subst e; exact xu_s _ _ _
    · rw [xu_n e, he m e]; exact hT.2.1 m hm, hT.2.2⟩
theorem TF.up {h0 h : xH} {tm : Nat} {ns : List Nat} (hF : TF tm ns h0 h) {n : Nat} (hn : n ∈ ns) (e : va_E) : TF tm ns h0 (xu h n e) := fun q e' n1 n2 z => (xu_n (fun w => n2 (by rw [w]; exact hn))).trans (hF q e' n1 n2 z)
theorem TN.obj {h : xH} {tm : Nat} {o o' : va_E} {ns : List Nat} {K : Nat → Nat} {V : Nat → Option Nat} {L R P : Nat → Option Nat} {C : Nat → Bool} (hT : TN h tm o ns K V L R P C) : TN (xu h tm o') tm o' ns K V L R P C :=
  ⟨xu_s _ _ _, fun m hm => (xu_n (fun e => hT.2.2 (by rw [← e]; exact hm))).trans (hT.2.1 m hm), hT.2.2⟩
theorem TF.obj {h0 h : xH} {tm : Nat} {ns : List Nat} (hF : TF tm ns h0 h) (e : va_E) : TF tm ns h0 (xu h tm e) := fun q e' n1 n2 z => (xu_n n1).trans (hF q e' n1 n2 z)
theorem rf_nar (ty : FieldType) (hr : ty.isReference = true) (v : Option Nat) : narrow ty (va_rf v) = va_rf v ∧ fits ty (va_rf v) = true := by
  cases ty <;> first | (simp [FieldType.isReference] at hr; done) | (cases v <;> exact ⟨rfl, rfl⟩)
variable {g : xG} {l : Launch} {M : xM} {d mc ms : Nat} {Q : xO → xH → Prop} {pc : Nat} {Lo : List (Option Value)} {st : List Value} {h h0 : xH} {uc us : Nat}
variable {tm : Nat} {o : va_E} {ns : List Nat} {K : Nat → Nat} {V : Nat → Option Nat} {L R P : Nat → Option Nat} {C : Nat → Bool}

theorem x_tg2 {n idx : Nat} {v : Value} (hT : TN h tm o ns K V L R P C) (hn : n ∈ ns) (hv : va_rf (L n) = v) (hl : Cond.fieldLink M.1.cls idx (TJ32 2).1 (TJ32 2).2.1 (TJ32 2).2.2.1 ∈ lw_all) (hd : decode M.2.1 pc = .ok (.getfield idx, 3)) (kk : X g l M d mc ms Q (pc + 3) Lo (v :: st) h uc us) : X g l M d mc ms Q pc Lo (.ref n :: st) h uc us := by
  subst hv; exact x_get kcJ32 2 rfl hl hd (hT.2.1 n hn) rfl kk
theorem x_tp2 {n idx : Nat} {w : Value} (v : Option Nat) (hw : w = va_rf v) (hT : TN h tm o ns K V L R P C) (hF : TF tm ns h0 h) (hn : n ∈ ns) (hl : Cond.fieldLink M.1.cls idx (TJ32 2).1 (TJ32 2).2.1 (TJ32 2).2.2.1 ∈ lw_all) (hd : decode M.2.1 pc = .ok (.putfield idx, 3)) (kk : ∀ h, TN h tm o ns K V (va_up L n v) R P C → TF tm ns h0 h → X g l M d mc ms Q (pc + 3) Lo st h uc us) : X g l M d mc ms Q pc Lo (w :: .ref n :: st) h uc us := by
  subst hw
  refine x_Gput kcJ32 2 rfl hl rfl hd (hT.2.1 n hn) (Nat.le_of_ble_eq_true rfl) (fs' := [.ref (K n), va_rf (V n), va_rf v, va_rf (R n), va_rf (P n), .int (bI (C n))]) rfl (rf_nar _ rfl v).1 (rf_nar _ rfl v).2 ?_
  refine kk _ ?_ (hF.up hn _)
  have := hT.up (K' := K) (V' := V) (L' := va_up L n v) (R' := R) (P' := P) (C' := C) n hn (fun m hm => by simp [tcell, va_up, hm])
  simpa [tcell, va_up] using this
theorem x_tg3 {n idx : Nat} {v : Value} (hT : TN h tm o ns K V L R P C) (hn : n ∈ ns) (hv : va_rf (R n) = v) (hl : Cond.fieldLink M.1.cls idx (TJ32 3).1 (TJ32 3).2.1 (TJ32 3).2.2.1 ∈ lw_all) (hd : decode M.2.1 pc = .ok (.getfield idx, 3)) (kk : X g l M d mc ms Q (pc + 3) Lo (v :: st) h uc us) : X g l M d mc ms Q pc Lo (.ref n :: st) h uc us := by
  subst hv; exact x_get kcJ32 3 rfl hl hd (hT.2.1 n hn) rfl kk
theorem x_tp3 {n idx : Nat} {w : Value} (v : Option Nat) (hw : w = va_rf v) (hT : TN h tm o ns K V L R P C) (hF : TF tm ns h0 h) (hn : n ∈ ns) (hl : Cond.fieldLink M.1.cls idx (TJ32 3).1 (TJ32 3).2.1 (TJ32 3).2.2.1 ∈ lw_all) (hd : decode M.2.1 pc = .ok (.putfield idx, 3)) (kk : ∀ h, TN h tm o ns K V L (va_up R n v) P C → TF tm ns h0 h → X g l M d mc ms Q (pc + 3) Lo st h uc us) : X g l M d mc ms Q pc Lo (w :: .ref n :: st) h uc us := by
  subst hw
  refine x_Gput kcJ32 3 rfl hl rfl hd (hT.2.1 n hn) (Nat.le_of_ble_eq_true rfl) (fs' := [.ref (K n), va_rf (V n), va_rf (L n), va_rf v, va_rf (P n), .int (bI (C n))]) rfl (rf_nar _ rfl v).1 (rf_nar _ rfl v).2 ?_
  refine kk _ ?_ (hF.up hn _)
  have := hT.up (K' := K) (V' := V) (L' := L) (R' := va_up R n v) (P' := P) (C' := C) n hn (fun m hm => by simp [tcell, va_up, hm])
  simpa [tcell, va_up] using this
theorem x_tg4 {n idx : Nat} {v : Value} (hT : TN h tm o ns K V L R P C) (hn : n ∈ ns) (hv : va_rf (P n) = v) (hl : Cond.fieldLink M.1.cls idx (TJ32 4).1 (TJ32 4).2.1 (TJ32 4).2.2.1 ∈ lw_all) (hd : decode M.2.1 pc = .ok (.getfield idx, 3)) (kk : X g l M d mc ms Q (pc + 3) Lo (v :: st) h uc us) : X g l M d mc ms Q pc Lo (.ref n :: st) h uc us := by
  subst hv; exact x_get kcJ32 4 rfl hl hd (hT.2.1 n hn) rfl kk
theorem x_tp4 {n idx : Nat} {w : Value} (v : Option Nat) (hw : w = va_rf v) (hT : TN h tm o ns K V L R P C) (hF : TF tm ns h0 h) (hn : n ∈ ns) (hl : Cond.fieldLink M.1.cls idx (TJ32 4).1 (TJ32 4).2.1 (TJ32 4).2.2.1 ∈ lw_all) (hd : decode M.2.1 pc = .ok (.putfield idx, 3)) (kk : ∀ h, TN h tm o ns K V L R (va_up P n v) C → TF tm ns h0 h → X g l M d mc ms Q (pc + 3) Lo st h uc us) : X g l M d mc ms Q pc Lo (w :: .ref n :: st) h uc us := by
  subst hw
  refine x_Gput kcJ32 4 rfl hl rfl hd (hT.2.1 n hn) (Nat.le_of_ble_eq_true rfl) (fs' := [.ref (K n), va_rf (V n), va_rf (L n), va_rf (R n), va_rf v, .int (bI (C n))]) rfl (rf_nar _ rfl v).1 (rf_nar _ rfl v).2 ?_
  refine kk _ ?_ (hF.up hn _)
  have := hT.up (K' := K) (V' := V) (L' := L) (R' := R) (P' := va_up P n v) (C' := C) n hn (fun m hm => by simp [tcell, va_up, hm])
  simpa [tcell, va_up] using this
theorem x_tp5 {n idx : Nat} {w : Int32} (v : Bool) (hw : w = bI v) (hT : TN h tm o ns K V L R P C) (hF : TF tm ns h0 h) (hn : n ∈ ns) (hl : Cond.fieldLink M.1.cls idx (TJ32 5).1 (TJ32 5).2.1 (TJ32 5).2.2.1 ∈ lw_all) (hd : decode M.2.1 pc = .ok (.putfield idx, 3)) (kk : ∀ h, TN h tm o ns K V L R P (va_up C n v) → TF tm ns h0 h → X g l M d mc ms Q (pc + 3) Lo st h uc us) : X g l M d mc ms Q pc Lo (.int w :: .ref n :: st) h uc us := by
  subst hw
  refine x_Gput kcJ32 5 rfl hl rfl hd (hT.2.1 n hn) (Nat.le_of_ble_eq_true rfl) (fs' := [.ref (K n), va_rf (V n), va_rf (L n), va_rf (R n), va_rf (P n), .int (bI v)]) rfl (xnar (bI_01 v)) (xfit (bI_01 v)) ?_
  refine kk _ ?_ (hF.up hn _)
  have := hT.up (K' := K) (V' := V) (L' := L) (R' := R) (P' := P) (C' := va_up C n v) n hn (fun m hm => by simp [tcell, va_up, hm])
  simpa [tcell, va_up] using this
theorem x_tp1 {n idx : Nat} {v : Option Nat} (hT : TN h tm o ns K V L R P C) (hF : TF tm ns h0 h) (hn : n ∈ ns) (hl : Cond.fieldLink M.1.cls idx (TJ32 1).1 (TJ32 1).2.1 (TJ32 1).2.2.1 ∈ lw_all) (hd : decode M.2.1 pc = .ok (.putfield idx, 3)) (kk : ∀ h, TN h tm o ns K (va_up V n v) L R P C → TF tm ns h0 h → X g l M d mc ms Q (pc + 3) Lo st h uc us) : X g l M d mc ms Q pc Lo (va_rf v :: .ref n :: st) h uc us := by
  refine x_Gput kcJ32 1 rfl hl rfl hd (hT.2.1 n hn) (Nat.le_of_ble_eq_true rfl) (fs' := [.ref (K n), va_rf v, va_rf (L n), va_rf (R n), va_rf (P n), .int (bI (C n))]) rfl (rf_nar _ rfl v).1 (rf_nar _ rfl v).2 ?_
  refine kk _ ?_ (hF.up hn _)
  have := hT.up (K' := K) (V' := va_up V n v) (L' := L) (R' := R) (P' := P) (C' := C) n hn (fun m hm => by simp [tcell, va_up, hm])
  simpa [tcell, va_up] using this
theorem x_troot {idx : Nat} {w : Value} {rt : Option Nat} {sz md : Int32} {nk : Option Nat} (v : Option Nat) (hw : w = va_rf v) (hT : TN h tm (tobj rt sz md nk) ns K V L R P C) (hF : TF tm ns h0 h) (hl : Cond.fieldLink M.1.cls idx (TJ21 3).1 (TJ21 3).2.1 (TJ21 3).2.2.1 ∈ lw_all) (hd : decode M.2.1 pc = .ok (.putfield idx, 3)) (kk : ∀ h, TN h tm (tobj v sz md nk) ns K V L R P C → TF tm ns h0 h → X g l M d mc ms Q (pc + 3) Lo st h uc us) : X g l M d mc ms Q pc Lo (w :: .ref tm :: st) h uc us := by
  subst hw
  refine x_Gput kcJ21 3 rfl hl rfl hd hT.1 (Nat.le_of_ble_eq_true rfl) (fs' := [.null, .null, .null, va_rf v, .int sz, .int md, .null, va_rf nk, .null]) rfl (rf_nar _ rfl v).1 (rf_nar _ rfl v).2 ?_
  exact kk _ hT.obj (hF.obj _)
theorem j_rotL_t {p r : Nat} {Lx Rx Px : Nat → Option Nat} {w : va_E} (hp : p ∈ ns) (hr : r ∈ ns) (Q : xO → xH → Prop) (hT : TN h tm w ns K V Lx Rx Px C) (hF : TF tm ns h0 h) (hE : ∀ h, TN h tm w ns K V (va_up Lx r (some p)) Rx (va_up Px p (some r)) C → TF tm ns h0 h → Q (.inl none) h) : X g l mJ21_rotateLeft d 0 0 Q 85 [some (.ref tm), some (.ref p), some (.ref r)] [] h 0 0 := by
  refine x_aload_n (M := mJ21_rotateLeft) (pc := 85) dJ21_rotateLeft_85 rfl ?_
  refine x_aload_n (M := mJ21_rotateLeft) (pc := 86) dJ21_rotateLeft_86 rfl ?_
  refine x_tp2 (M := mJ21_rotateLeft) (pc := 87) (some p) rfl hT hF hr q2550 dJ21_rotateLeft_87 (fun h hT hF => ?_)
  refine x_aload_n (M := mJ21_rotateLeft) (pc := 90) dJ21_rotateLeft_90 rfl ?_
  refine x_aload_n (M := mJ21_rotateLeft) (pc := 91) dJ21_rotateLeft_91 rfl ?_
  refine x_tp4 (M := mJ21_rotateLeft) (pc := 92) (some r) rfl hT hF hp q2553 dJ21_rotateLeft_92 (fun h hT hF => ?_)
  refine x_vret (M := mJ21_rotateLeft) (pc := 95) dJ21_rotateLeft_95 rfl (by first | exact Nat.le_of_ble_eq_true rfl | omega) (by first | exact Nat.le_of_ble_eq_true rfl | omega) ?_
  exact hE h hT hF
theorem j_rotL (h : xH) (tm d : Nat) (sz md : Int32) (nk : Option Nat) (ns : List Nat) (K : Nat → Nat) (V : Nat → Option Nat) (L R P : Nat → Option Nat) (C : Nat → Bool) (c : Cx) (p r : Nat) (a b e : Tre) (hns : ns = tIo (tPl c (tn p a (tn r b e)))) (hS : tSh L R P (tPl c (tn p a (tn r b e))) none) (nd : ns.Nodup) (hT : TN h tm (tobj (cRt c (some p)) sz md nk) ns K V L R P C) :
    Ct g l mJ21_rotateLeft d 0 0 [.ref tm, .ref p] h (fun o h1 => o = .inl none ∧ TN h1 tm (tobj (cRt c (some r)) sz md nk) ns K V (va_up (cSet false c L (some r)) r (some p)) (cSet true c (va_up R p (tRt b)) (some r)) (va_up (va_up (oUp P (tRt b) (some p)) r (tPar c)) p (some r)) C ∧ TF tm ns h h1) := by
  have hS0 := hS
  rw [tSh_pl] at hS
  have hmem : ∀ n, n ∈ cIoL c ∨ n ∈ tIo (tn p a (tn r b e)) ∨ n ∈ cIoR c → n ∈ ns := fun n hn => by rw [hns, tIo_pl]; simp only [List.mem_append]; grind
  have hp : p ∈ ns := hmem p (Or.inr (Or.inl (by simp [tIo])))
  have hr : r ∈ ns := hmem r (Or.inr (Or.inl (by simp [tIo])))
  have hbm : ∀ n, tRt b = some n → n ∈ tIo b := fun n => tRt_mem
  have nd0 := nd
  rw [hns, tIo_pl] at nd
  simp only [tIo, List.nodup_append, List.nodup_cons, List.mem_append, List.mem_cons] at nd
  have hpr : p ≠ r := by grind
  have hpb : p ∉ tIo b := by grind
  have hrb : r ∉ tIo b := by grind
  have hpc : p ∉ cIoL c ∧ p ∉ cIoR c := by grind
  have hbc : ∀ n, n ∈ tIo b → n ∉ cIoL c ∧ n ∉ cIoR c := by grind
  have hbm2 : ∀ n, tRt b = some n → n ∈ ns := fun n hn => hmem n (Or.inr (Or.inl (by simp [tIo, hbm n hn])))
  clear nd
  obtain ⟨hc, h1, h2, h3, h4, h5, h6, h7, h8, h9⟩ := hS
  have hpP : oUp P (tRt b) (some p) p = tPar c := by rw [oUp_n (fun z => hpb (hbm p z))]; exact h1
  have tail : ∀ h1, TN h1 tm (tobj (cRt c (some p)) sz md nk) ns K V L (va_up R p (tRt b)) (oUp P (tRt b) (some p)) C → TF tm ns h h1 → X g l mJ21_rotateLeft d 0 0 (fun o h1 => o = .inl none ∧ TN h1 tm (tobj (cRt c (some r)) sz md nk) ns K V (va_up (cSet false c L (some r)) r (some p)) (cSet true c (va_up R p (tRt b)) (some r)) (va_up (va_up (oUp P (tRt b) (some p)) r (tPar c)) p (some r)) C ∧ TF tm ns h h1) 32 [some (.ref tm), some (.ref p), some (.ref r)] [] h1 0 0 := by
    intro h1 hT hF
    refine x_aload_n (M := mJ21_rotateLeft) (pc := 32) dJ21_rotateLeft_32 rfl ?_
    refine x_aload_n (M := mJ21_rotateLeft) (pc := 33) dJ21_rotateLeft_33 rfl ?_
    refine x_tg4 (M := mJ21_rotateLeft) (pc := 34) hT hp (by rw [hpP]) q2553 dJ21_rotateLeft_34 ?_
    refine x_tp4 (M := mJ21_rotateLeft) (pc := 37) (tPar c) rfl hT hF hr q2553 dJ21_rotateLeft_37 (fun h hT hF => ?_)
    have hpP2 : va_up (oUp P (tRt b) (some p)) r (tPar c) p = tPar c := by simp only [va_up, hpr, if_false]; exact hpP
    refine x_aload_n (M := mJ21_rotateLeft) (pc := 40) dJ21_rotateLeft_40 rfl ?_
    refine x_tg4 (M := mJ21_rotateLeft) (pc := 41) hT hp (by rw [hpP2]) q2553 dJ21_rotateLeft_41 ?_
    cases c with
    | nil =>
      refine x_ifnonnullN (M := mJ21_rotateLeft) (pc := 44) dJ21_rotateLeft_44 ?_
      refine x_aload_n (M := mJ21_rotateLeft) (pc := 47) dJ21_rotateLeft_47 rfl ?_
      refine x_aload_n (M := mJ21_rotateLeft) (pc := 48) dJ21_rotateLeft_48 rfl ?_
      refine x_troot (M := mJ21_rotateLeft) (pc := 49) (some r) rfl hT hF q2087 dJ21_rotateLeft_49 (fun h hT hF => ?_)
      refine x_goto (M := mJ21_rotateLeft) (pc := 52) 85 dJ21_rotateLeft_52 (by decide) ?_
      exact j_rotL_t hp hr _ hT hF (fun h hT hF => ⟨rfl, hT, hF⟩)
    | cons f c =>
      obtain ⟨bb, q, s⟩ := f
      have hq : q ∈ ns := hmem q (by cases bb <;> simp [cIoL, cIoR])
      have hqp : p ≠ q := by intro z; cases bb <;> simp [cIoL, cIoR, z] at hpc
      refine x_ifnonnullR (M := mJ21_rotateLeft) (pc := 44) 55 dJ21_rotateLeft_44 (by decide) ?_
      refine x_aload_n (M := mJ21_rotateLeft) (pc := 55) dJ21_rotateLeft_55 rfl ?_
      refine x_tg4 (M := mJ21_rotateLeft) (pc := 56) hT hp (v := .ref q) (by rw [hpP2]; rfl) q2553 dJ21_rotateLeft_56 ?_
      refine x_tg2 (M := mJ21_rotateLeft) (pc := 59) hT hq rfl q2550 dJ21_rotateLeft_59 ?_
      refine x_aload_n (M := mJ21_rotateLeft) (pc := 62) dJ21_rotateLeft_62 rfl ?_
      cases bb with
      | false =>
        have hAq : L q = some p := by have := hc.2.1; simp at this; exact this.1
        refine x_acmp_ne (M := mJ21_rotateLeft) (pc := 63) (L q) (some p) 77 dJ21_rotateLeft_63 (by decide) rfl rfl (fun z => absurd hAq z) (fun _ => ?_)
        refine x_aload_n (M := mJ21_rotateLeft) (pc := 66) dJ21_rotateLeft_66 rfl ?_
        refine x_tg4 (M := mJ21_rotateLeft) (pc := 67) hT hp (v := .ref q) (by rw [hpP2]; rfl) q2553 dJ21_rotateLeft_67 ?_
        refine x_aload_n (M := mJ21_rotateLeft) (pc := 70) dJ21_rotateLeft_70 rfl ?_
        refine x_tp2 (M := mJ21_rotateLeft) (pc := 71) (some r) rfl hT hF hq q2550 dJ21_rotateLeft_71 (fun h hT hF => ?_)
        refine x_goto (M := mJ21_rotateLeft) (pc := 74) 85 dJ21_rotateLeft_74 (by decide) ?_
        exact j_rotL_t hp hr _ hT hF (fun h hT hF => ⟨rfl, hT, hF⟩)
      | true =>
        have hAq : L q ≠ some p := by
          have := hc.2.1; simp at this; rw [this.2]; intro z
          exact absurd (tRt_mem z) (fun w => hpc.1 (by simp [cIoL, w]))
        refine x_acmp_ne (M := mJ21_rotateLeft) (pc := 63) (L q) (some p) 77 dJ21_rotateLeft_63 (by decide) rfl rfl (fun _ => ?_) (fun z => absurd z hAq)
        refine x_aload_n (M := mJ21_rotateLeft) (pc := 77) dJ21_rotateLeft_77 rfl ?_
        refine x_tg4 (M := mJ21_rotateLeft) (pc := 78) hT hp (v := .ref q) (by rw [hpP2]; rfl) q2553 dJ21_rotateLeft_78 ?_
        refine x_aload_n (M := mJ21_rotateLeft) (pc := 81) dJ21_rotateLeft_81 rfl ?_
        refine x_tp3 (M := mJ21_rotateLeft) (pc := 82) (some r) rfl hT hF hq q2551 dJ21_rotateLeft_82 (fun h hT hF => ?_)
        exact j_rotL_t hp hr _ hT hF (fun h hT hF => ⟨rfl, hT, hF⟩)
  refine Ct.of [some (.ref tm), some (.ref p), none] (by decide +kernel) rfl (Nat.le_of_ble_eq_true rfl) rfl rfl ?_
  refine x_aload_n (M := mJ21_rotateLeft) (pc := 0) dJ21_rotateLeft_0 rfl ?_
  refine x_ifnullR (M := mJ21_rotateLeft) (pc := 1) dJ21_rotateLeft_1 ?_
  refine x_aload_n (M := mJ21_rotateLeft) (pc := 4) dJ21_rotateLeft_4 rfl ?_
  refine x_tg3 (M := mJ21_rotateLeft) (pc := 5) hT hp (v := .ref r) (by rw [h3]; rfl) q2551 dJ21_rotateLeft_5 ?_
  refine x_astore2 (M := mJ21_rotateLeft) (pc := 8) dJ21_rotateLeft_8 ?_
  refine x_aload_n (M := mJ21_rotateLeft) (pc := 9) dJ21_rotateLeft_9 rfl ?_
  refine x_aload_n (M := mJ21_rotateLeft) (pc := 10) dJ21_rotateLeft_10 rfl ?_
  refine x_tg2 (M := mJ21_rotateLeft) (pc := 11) hT hr (by rw [h6]) q2550 dJ21_rotateLeft_11 ?_
  refine x_tp3 (M := mJ21_rotateLeft) (pc := 14) (tRt b) rfl hT TF.rf hp q2551 dJ21_rotateLeft_14 (fun h1 hT hF => ?_)
  refine x_aload_n (M := mJ21_rotateLeft) (pc := 17) dJ21_rotateLeft_17 rfl ?_
  refine x_tg2 (M := mJ21_rotateLeft) (pc := 18) hT hr (by rw [h6]) q2550 dJ21_rotateLeft_18 ?_
  cases hb : tRt b with
  | none =>
    refine x_ifnullN (M := mJ21_rotateLeft) (pc := 21) 32 dJ21_rotateLeft_21 (by decide) ?_
    rw [hb] at tail hT
    exact tail h1 hT hF
  | some nb =>
    refine x_ifnullR (M := mJ21_rotateLeft) (pc := 21) dJ21_rotateLeft_21 ?_
    refine x_aload_n (M := mJ21_rotateLeft) (pc := 24) dJ21_rotateLeft_24 rfl ?_
    refine x_tg2 (M := mJ21_rotateLeft) (pc := 25) hT hr (v := .ref nb) (by rw [h6, hb]; rfl) q2550 dJ21_rotateLeft_25 ?_
    refine x_aload_n (M := mJ21_rotateLeft) (pc := 28) dJ21_rotateLeft_28 rfl ?_
    refine x_tp4 (M := mJ21_rotateLeft) (pc := 29) (some p) rfl hT hF (hbm2 nb hb) q2553 dJ21_rotateLeft_29 (fun h2 hT hF => ?_)
    rw [hb] at tail hT
    exact tail h2 hT hF
theorem j_rotR_t {p r : Nat} {Lx Rx Px : Nat → Option Nat} {w : va_E} (hp : p ∈ ns) (hr : r ∈ ns) (Q : xO → xH → Prop) (hT : TN h tm w ns K V Lx Rx Px C) (hF : TF tm ns h0 h) (hE : ∀ h, TN h tm w ns K V Lx (va_up Rx r (some p)) (va_up Px p (some r)) C → TF tm ns h0 h → Q (.inl none) h) : X g l mJ21_rotateRight d 0 0 Q 85 [some (.ref tm), some (.ref p), some (.ref r)] [] h 0 0 := by
  refine x_aload_n (M := mJ21_rotateRight) (pc := 85) dJ21_rotateRight_85 rfl ?_
  refine x_aload_n (M := mJ21_rotateRight) (pc := 86) dJ21_rotateRight_86 rfl ?_
  refine x_tp3 (M := mJ21_rotateRight) (pc := 87) (some p) rfl hT hF hr q2551 dJ21_rotateRight_87 (fun h hT hF => ?_)
  refine x_aload_n (M := mJ21_rotateRight) (pc := 90) dJ21_rotateRight_90 rfl ?_
  refine x_aload_n (M := mJ21_rotateRight) (pc := 91) dJ21_rotateRight_91 rfl ?_
  refine x_tp4 (M := mJ21_rotateRight) (pc := 92) (some r) rfl hT hF hp q2553 dJ21_rotateRight_92 (fun h hT hF => ?_)
  refine x_vret (M := mJ21_rotateRight) (pc := 95) dJ21_rotateRight_95 rfl (by first | exact Nat.le_of_ble_eq_true rfl | omega) (by first | exact Nat.le_of_ble_eq_true rfl | omega) ?_
  exact hE h hT hF
theorem j_rotR (h : xH) (tm d : Nat) (sz md : Int32) (nk : Option Nat) (ns : List Nat) (K : Nat → Nat) (V : Nat → Option Nat) (L R P : Nat → Option Nat) (C : Nat → Bool) (c : Cx) (p r : Nat) (a b e : Tre) (hns : ns = tIo (tPl c (tn p (tn r e b) a))) (hS : tSh L R P (tPl c (tn p (tn r e b) a)) none) (nd : ns.Nodup) (hT : TN h tm (tobj (cRt c (some p)) sz md nk) ns K V L R P C) :
    Ct g l mJ21_rotateRight d 0 0 [.ref tm, .ref p] h (fun o h1 => o = .inl none ∧ TN h1 tm (tobj (cRt c (some r)) sz md nk) ns K V (cSet false c (va_up L p (tRt b)) (some r)) (va_up (cSet true c R (some r)) r (some p)) (va_up (va_up (oUp P (tRt b) (some p)) r (tPar c)) p (some r)) C ∧ TF tm ns h h1) := by
  have hS0 := hS
  rw [tSh_pl] at hS
  have hmem : ∀ n, n ∈ cIoL c ∨ n ∈ tIo (tn p (tn r e b) a) ∨ n ∈ cIoR c → n ∈ ns := fun n hn => by rw [hns, tIo_pl]; simp only [List.mem_append]; grind
  have hp : p ∈ ns := hmem p (Or.inr (Or.inl (by simp [tIo])))
  have hr : r ∈ ns := hmem r (Or.inr (Or.inl (by simp [tIo])))
  have hbm : ∀ n, tRt b = some n → n ∈ tIo b := fun n => tRt_mem
  have nd0 := nd
  rw [hns, tIo_pl] at nd
  simp only [tIo, List.nodup_append, List.nodup_cons, List.mem_append, List.mem_cons] at nd
  have hpr : p ≠ r := by grind
  have hpb : p ∉ tIo b := by grind
  have hrb : r ∉ tIo b := by grind
  have hpc : p ∉ cIoL c ∧ p ∉ cIoR c := by grind
  have hbc : ∀ n, n ∈ tIo b → n ∉ cIoL c ∧ n ∉ cIoR c := by grind
  have hbm2 : ∀ n, tRt b = some n → n ∈ ns := fun n hn => hmem n (Or.inr (Or.inl (by simp [tIo, hbm n hn])))
  clear nd
  obtain ⟨hc, h1, h3, h2, ⟨h5, h7, h6, h9, h8⟩, h4⟩ := hS
  have hpP : oUp P (tRt b) (some p) p = tPar c := by rw [oUp_n (fun z => hpb (hbm p z))]; exact h1
  have tail : ∀ h1, TN h1 tm (tobj (cRt c (some p)) sz md nk) ns K V (va_up L p (tRt b)) R (oUp P (tRt b) (some p)) C → TF tm ns h h1 → X g l mJ21_rotateRight d 0 0 (fun o h1 => o = .inl none ∧ TN h1 tm (tobj (cRt c (some r)) sz md nk) ns K V (cSet false c (va_up L p (tRt b)) (some r)) (va_up (cSet true c R (some r)) r (some p)) (va_up (va_up (oUp P (tRt b) (some p)) r (tPar c)) p (some r)) C ∧ TF tm ns h h1) 32 [some (.ref tm), some (.ref p), some (.ref r)] [] h1 0 0 := by
    intro h1 hT hF
    refine x_aload_n (M := mJ21_rotateRight) (pc := 32) dJ21_rotateRight_32 rfl ?_
    refine x_aload_n (M := mJ21_rotateRight) (pc := 33) dJ21_rotateRight_33 rfl ?_
    refine x_tg4 (M := mJ21_rotateRight) (pc := 34) hT hp (by rw [hpP]) q2553 dJ21_rotateRight_34 ?_
    refine x_tp4 (M := mJ21_rotateRight) (pc := 37) (tPar c) rfl hT hF hr q2553 dJ21_rotateRight_37 (fun h hT hF => ?_)
    have hpP2 : va_up (oUp P (tRt b) (some p)) r (tPar c) p = tPar c := by simp only [va_up, hpr, if_false]; exact hpP
    refine x_aload_n (M := mJ21_rotateRight) (pc := 40) dJ21_rotateRight_40 rfl ?_
    refine x_tg4 (M := mJ21_rotateRight) (pc := 41) hT hp (by rw [hpP2]) q2553 dJ21_rotateRight_41 ?_
    cases c with
    | nil =>
      refine x_ifnonnullN (M := mJ21_rotateRight) (pc := 44) dJ21_rotateRight_44 ?_
      refine x_aload_n (M := mJ21_rotateRight) (pc := 47) dJ21_rotateRight_47 rfl ?_
      refine x_aload_n (M := mJ21_rotateRight) (pc := 48) dJ21_rotateRight_48 rfl ?_
      refine x_troot (M := mJ21_rotateRight) (pc := 49) (some r) rfl hT hF q2087 dJ21_rotateRight_49 (fun h hT hF => ?_)
      refine x_goto (M := mJ21_rotateRight) (pc := 52) 85 dJ21_rotateRight_52 (by decide) ?_
      exact j_rotR_t hp hr _ hT hF (fun h hT hF => ⟨rfl, hT, hF⟩)
    | cons f c =>
      obtain ⟨bb, q, s⟩ := f
      have hq : q ∈ ns := hmem q (by cases bb <;> simp [cIoL, cIoR])
      have hqp : p ≠ q := by intro z; cases bb <;> simp [cIoL, cIoR, z] at hpc
      refine x_ifnonnullR (M := mJ21_rotateRight) (pc := 44) 55 dJ21_rotateRight_44 (by decide) ?_
      refine x_aload_n (M := mJ21_rotateRight) (pc := 55) dJ21_rotateRight_55 rfl ?_
      refine x_tg4 (M := mJ21_rotateRight) (pc := 56) hT hp (v := .ref q) (by rw [hpP2]; rfl) q2553 dJ21_rotateRight_56 ?_
      refine x_tg3 (M := mJ21_rotateRight) (pc := 59) hT hq rfl q2551 dJ21_rotateRight_59 ?_
      refine x_aload_n (M := mJ21_rotateRight) (pc := 62) dJ21_rotateRight_62 rfl ?_
      cases bb with
      | false =>
        have hAq : R q ≠ some p := by
          have := hc.2.1; simp at this; rw [this.2]; intro z
          exact absurd (tRt_mem z) (fun w => hpc.2 (by simp [cIoR, w]))
        refine x_acmp_ne (M := mJ21_rotateRight) (pc := 63) (R q) (some p) 77 dJ21_rotateRight_63 (by decide) rfl rfl (fun _ => ?_) (fun z => absurd z hAq)
        refine x_aload_n (M := mJ21_rotateRight) (pc := 77) dJ21_rotateRight_77 rfl ?_
        refine x_tg4 (M := mJ21_rotateRight) (pc := 78) hT hp (v := .ref q) (by rw [hpP2]; rfl) q2553 dJ21_rotateRight_78 ?_
        refine x_aload_n (M := mJ21_rotateRight) (pc := 81) dJ21_rotateRight_81 rfl ?_
        refine x_tp2 (M := mJ21_rotateRight) (pc := 82) (some r) rfl hT hF hq q2550 dJ21_rotateRight_82 (fun h hT hF => ?_)
        exact j_rotR_t hp hr _ hT hF (fun h hT hF => ⟨rfl, hT, hF⟩)
      | true =>
        have hAq : R q = some p := by have := hc.2.1; simp at this; exact this.1
        refine x_acmp_ne (M := mJ21_rotateRight) (pc := 63) (R q) (some p) 77 dJ21_rotateRight_63 (by decide) rfl rfl (fun z => absurd hAq z) (fun _ => ?_)
        refine x_aload_n (M := mJ21_rotateRight) (pc := 66) dJ21_rotateRight_66 rfl ?_
        refine x_tg4 (M := mJ21_rotateRight) (pc := 67) hT hp (v := .ref q) (by rw [hpP2]; rfl) q2553 dJ21_rotateRight_67 ?_
        refine x_aload_n (M := mJ21_rotateRight) (pc := 70) dJ21_rotateRight_70 rfl ?_
        refine x_tp3 (M := mJ21_rotateRight) (pc := 71) (some r) rfl hT hF hq q2551 dJ21_rotateRight_71 (fun h hT hF => ?_)
        refine x_goto (M := mJ21_rotateRight) (pc := 74) 85 dJ21_rotateRight_74 (by decide) ?_
        exact j_rotR_t hp hr _ hT hF (fun h hT hF => ⟨rfl, hT, hF⟩)
  refine Ct.of [some (.ref tm), some (.ref p), none] (by decide +kernel) rfl (Nat.le_of_ble_eq_true rfl) rfl rfl ?_
  refine x_aload_n (M := mJ21_rotateRight) (pc := 0) dJ21_rotateRight_0 rfl ?_
  refine x_ifnullR (M := mJ21_rotateRight) (pc := 1) dJ21_rotateRight_1 ?_
  refine x_aload_n (M := mJ21_rotateRight) (pc := 4) dJ21_rotateRight_4 rfl ?_
  refine x_tg2 (M := mJ21_rotateRight) (pc := 5) hT hp (v := .ref r) (by rw [h3]; rfl) q2550 dJ21_rotateRight_5 ?_
  refine x_astore2 (M := mJ21_rotateRight) (pc := 8) dJ21_rotateRight_8 ?_
  refine x_aload_n (M := mJ21_rotateRight) (pc := 9) dJ21_rotateRight_9 rfl ?_
  refine x_aload_n (M := mJ21_rotateRight) (pc := 10) dJ21_rotateRight_10 rfl ?_
  refine x_tg3 (M := mJ21_rotateRight) (pc := 11) hT hr (by rw [h6]) q2551 dJ21_rotateRight_11 ?_
  refine x_tp2 (M := mJ21_rotateRight) (pc := 14) (tRt b) rfl hT TF.rf hp q2550 dJ21_rotateRight_14 (fun h1 hT hF => ?_)
  refine x_aload_n (M := mJ21_rotateRight) (pc := 17) dJ21_rotateRight_17 rfl ?_
  refine x_tg3 (M := mJ21_rotateRight) (pc := 18) hT hr (by rw [h6]) q2551 dJ21_rotateRight_18 ?_
  cases hb : tRt b with
  | none =>
    refine x_ifnullN (M := mJ21_rotateRight) (pc := 21) 32 dJ21_rotateRight_21 (by decide) ?_
    rw [hb] at tail hT
    exact tail h1 hT hF
  | some nb =>
    refine x_ifnullR (M := mJ21_rotateRight) (pc := 21) dJ21_rotateRight_21 ?_
    refine x_aload_n (M := mJ21_rotateRight) (pc := 24) dJ21_rotateRight_24 rfl ?_
    refine x_tg3 (M := mJ21_rotateRight) (pc := 25) hT hr (v := .ref nb) (by rw [h6, hb]; rfl) q2551 dJ21_rotateRight_25 ?_
    refine x_aload_n (M := mJ21_rotateRight) (pc := 28) dJ21_rotateRight_28 rfl ?_
    refine x_tp4 (M := mJ21_rotateRight) (pc := 29) (some p) rfl hT hF (hbm2 nb hb) q2553 dJ21_rotateRight_29 (fun h2 hT hF => ?_)
    rw [hb] at tail hT
    exact tail h2 hT hF
end JDKTM

/-! commands: carried out (5): all pages are printed -/
section CARRY5
set_option maxRecDepth 100000
variable {g : xG} {l : Launch} {h h0 h' : xH}
/-- a booklet depends on four numbers of its sheet -/
theorem BKL.row {bk sh : Nat} {s s' : Row} {ly : Nat → Lay} {La : Nat → Nat} {xs : List Nat} {J : List Jt} (hB : BKL g h bk sh s ly La xs J) (hs : ∀ j, j < 86 → s' j = s j) : BKL g h bk sh s' ly La xs J := by
  unfold BKL zHi zWi at hB ⊢
  rw [zN_c (hs 0 (by omega)), zN_c (hs 1 (by omega)), zN_c (hs 7 (by omega)), zN_c (hs 8 (by omega))]
  exact hB
/-- its cells lie apart from those of the sheet that printing changes -/
theorem BKL.xl3 {bk sh : Nat} {s : Row} {ly : Nat → Lay} {La : Nat → Nat} {xs : List Nat} {J : List Jt} {p q r : Nat} (hB : BKL g h bk sh s ly La xs J) (hl : xl3 p q r h h') (hp : ∃ e, h0 p = some e) (hq : ∃ e, h0 q = some e) (hr : ∃ e, h0 r = some e) (hn : ∀ a, (∃ e, h0 a = some e) → ∀ lv jl sb, h bk = some (.inr (8, [.ref sh, .ref lv, .ref jl, .ref sb])) → a ≠ sb) (hx : h (xca g 0 0) = none) (kp : ∀ e, h p = some e → ∃ t n f, e = .inl (t, n, .inl f)) (kq : ∀ e, h q = some e → ∃ t n f, e = .inl (t, n, .inl f)) (kr : ∀ e, h r = some e → ∃ t n f, e = .inl (t, n, .inl f)) : BKL g h' bk sh s ly La xs J := by
  obtain ⟨lv, jl, ja, cap, sb, h1, ⟨f, h2, h3⟩, h4, ⟨⟨m, ff, A⟩, A2, A3⟩, ⟨fs, h6, h7⟩⟩ := hB
  have K : ∀ a e, h a = some e → (∀ t n f, e ≠ .inl (t, n, .inl f)) → h' a = some e := fun a e ha hne => hl a e (fun z => by obtain ⟨t, n, f, w⟩ := kp e (z ▸ ha); exact hne _ _ _ w) (fun z => by obtain ⟨t, n, f, w⟩ := kq e (z ▸ ha); exact hne _ _ _ w) (fun z => by obtain ⟨t, n, f, w⟩ := kr e (z ▸ ha); exact hne _ _ _ w) ha
  refine ⟨lv, jl, ja, cap, sb, K _ _ h1 (by intro _ _ _ z; cases z), ⟨f, K _ _ h2 (by intro _ _ _ z; cases z), h3⟩, fun t ht => K _ _ (h4 t ht) (by intro _ _ _ z; cases z), ⟨⟨m, ff, K _ _ A.1 (by intro _ _ _ z; cases z), A.2.1.imp (fun y => K _ _ y (by intro _ _ _ z; cases z)) id, A.2.2⟩, A2, fun k hk => K _ _ (A3 k hk) (by intro _ _ _ z; cases z)⟩, ⟨fs, hl _ _ (hn p hp lv jl sb h1).symm (hn q hq lv jl sb h1).symm (hn r hr lv jl sb h1).symm h6, h7⟩⟩
theorem prA_87 (ly : Nat → Lay) (sp : Nat) (s : Row) (hly : ∀ t, t < 16 → (ly t).1 < 16) : ∀ k, k ≤ 32 → (p_prA ly sp s k).1 87 = s 87 + (p_prA ly sp s k).2
  | 0, _ => by show s 87 = s 87 + 0; rw [Int32.add_zero]
  | k + 1, hk => by
    have ih := prA_87 ly sp s hly k (by omega)
    show p_prS _ _ _ _ 87 = _
    unfold p_prS
    rw [upd_s, ih]
    show _ = s 87 + ((p_prA ly sp s k).2 + _)
    rw [Int32.add_assoc]
end CARRY5

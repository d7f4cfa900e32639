section
/-! the first half: settle and measure over the law's seven pieces -/
section PSa
variable {post : St2 → Prop} {pw un me la lr gc x x1 x2 x3 : Int32} {a1 a2 a3 a4 a5 a6 a7 a8 a9 a10 : Nat → Int32}
theorem ps_c0 : (0 : Int32).toNatClampNeg = 0 := by decide
theorem ps_c1 : (1 : Int32).toNatClampNeg = 1 := by decide
/-- no group waits: settle does nothing -/
theorem ps_set0 (h : post (pw, 7, un, me, la, lr, gc, a1, a2, a3, a4, a5, a6, a7, a8, a9, a10)) :
    wpX_settle post (pw, 7, un, me, la, lr, gc, a1, a2, a3, a4, a5, a6, a7, a8, a9, a10) 0 x :=
  ⟨0 + 1, br_t (by decide) h⟩
/-- one group waits, it is that of piece 1: it learns its reach -/
theorem ps_set1 (h6 : a6 0 = 1) (h : ∀ b : Nat → Int32, b 1 = x - a4 1 → post (pw, 7, un, me, la, lr, gc, a1, a2, b, a4, a5, a6, a7, a8, a9, a10)) :
    wpX_settle post (pw, 7, un, me, la, lr, gc, a1, a2, a3, a4, a5, a6, a7, a8, a9, a10) 1 x :=
  ⟨0 + 1 + 1, br_f (by decide) ⟨pk_in 0 60 (by omega), pk_in 0 60 (by omega), (by rw [ps_c0, h6]; exact pk_in 1 60 (by omega)), (by rw [ps_c0, h6]; exact pk_in 1 60 (by omega)),
    fun b eb => nm_r (e' := 1) (by decide) (br_t (by decide) (h b (by rw [eb, ps_c0, h6, ps_c1, pk_us])))⟩⟩
theorem ps_mW {n k : Nat} (hk : k < 7) (h1 : a1 k = 0) (h : wX_measure_22 post n (x1 + a2 k) x2 x3 (nI (k + 1)) pw 7 un me la lr gc a1 a2 a3 a4 a5 a6 a7 a8 a9 a10) :
    wX_measure_22 post (n + 1) x1 x2 x3 (nI k) pw 7 un me la lr gc a1 a2 a3 a4 a5 a6 a7 a8 a9 a10 := by
  have e : (nI k).toNatClampNeg = k := nI_clamp (by omega)
  have hin : vp_in (nI k) 60 := pk_in k 60 (by omega)
  exact pk_le 7 k (fun z => absurd z (by omega)) (fun _ => ⟨hin, br_f (by rw [e, h1]; decide) ⟨hin, br_f (by rw [e, h1]; decide) ⟨hin, br_f (by rw [e, h1]; decide) ⟨hin, nm_r (by rw [e]) (nm_r (nI_1 k) h)⟩⟩⟩⟩)
theorem ps_mB {n k : Nat} (hk : k < 7) (h1 : a1 k = 1) (h : wX_measure_22 post n (x1 + a2 k) x2 0 (nI (k + 1)) pw 7 un me la lr gc a1 a2 a3 a4 a5 a6 a7 a8 a9 a10) :
    wX_measure_22 post (n + 1) x1 x2 0 (nI k) pw 7 un me la lr gc a1 a2 a3 a4 a5 a6 a7 a8 a9 a10 := by
  have e : (nI k).toNatClampNeg = k := nI_clamp (by omega)
  have hin : vp_in (nI k) 60 := pk_in k 60 (by omega)
  exact pk_le 7 k (fun z => absurd z (by omega)) (fun _ => ⟨hin, br_f (by rw [e, h1]; decide) ⟨hin, br_f (by rw [e, h1]; decide) ⟨hin, br_t (by rw [e, h1]) (ps_set0 ⟨hin, nm_r (by rw [e]) (nm_r (nI_1 k) h)⟩)⟩⟩⟩)
theorem ps_mO {n k : Nat} (hk : k < 7) (h1 : a1 k = 2)
    (h : ∀ b4 b5 : Nat → Int32, b4 k = x1 → b5 0 = nI k → wX_measure_22 post n x1 1 x3 (nI (k + 1)) pw 7 un me la lr gc a1 a2 a3 b4 b5 a6 a7 a8 a9 a10) :
    wX_measure_22 post (n + 1) x1 0 x3 (nI k) pw 7 un me la lr gc a1 a2 a3 a4 a5 a6 a7 a8 a9 a10 := by
  have e : (nI k).toNatClampNeg = k := nI_clamp (by omega)
  have hin : vp_in (nI k) 60 := pk_in k 60 (by omega)
  exact pk_le 7 k (fun z => absurd z (by omega)) (fun _ => ⟨hin, br_t (by rw [e, h1]) ⟨hin, fun b4 e4 => ⟨pk_in 0 12 (by omega), fun b5 e5 =>
    nm_r (e' := 1) (by decide) (nm_r (nI_1 k) (h b4 b5 (by rw [e4, e, pk_us]) (by rw [e5, ps_c0, pk_us])))⟩⟩⟩)
theorem ps_mC {n k : Nat} (hk : k < 7) (h1 : a1 k = 3)
    (h : ∀ b6 : Nat → Int32, b6 0 = a5 0 → wX_measure_22 post n x1 0 1 (nI (k + 1)) pw 7 un me la lr gc a1 a2 a3 a4 a5 b6 a7 a8 a9 a10) :
    wX_measure_22 post (n + 1) x1 1 0 (nI k) pw 7 un me la lr gc a1 a2 a3 a4 a5 a6 a7 a8 a9 a10 := by
  have e : (nI k).toNatClampNeg = k := nI_clamp (by omega)
  have hin : vp_in (nI k) 60 := pk_in k 60 (by omega)
  exact pk_le 7 k (fun z => absurd z (by omega)) (fun _ => ⟨hin, br_f (by rw [e, h1]; decide) ⟨hin, br_t (by rw [e, h1])
    (nm_r (e' := 0) (by decide) ⟨pk_in 0 12 (by omega), pk_in 0 60 (by omega), fun b6 e6 => nm_r (e' := 1) (by decide) (nm_r (nI_1 k) (h b6 (by rw [e6, ps_c0, pk_us])))⟩)⟩⟩)
theorem ps_mX {n : Nat} (h6 : a6 0 = 1)
    (h : ∀ b3 : Nat → Int32, b3 1 = x1 - a4 1 → post (pw, 7, un, me, la, lr, gc, a1, a2, b3, a4, a5, a6, a7, a8, a9, a10)) :
    wX_measure_22 post (n + 1) x1 0 1 (nI 7) pw 7 un me la lr gc a1 a2 a3 a4 a5 a6 a7 a8 a9 a10 :=
  br_t (by decide) (ps_set1 h6 (fun b3 e3 => ⟨0 + 1, br_t (by decide) (h b3 e3)⟩))
/-- measure: the one group's reach is the sum of the sizes behind it -/
theorem ps_measure {a b c d : Nat} (h0 : a1 0 = 0) (h1 : a1 1 = 2) (h2 : a1 2 = 0) (h3 : a1 3 = 1) (h4 : a1 4 = 0) (h5 : a1 5 = 3) (h6 : a1 6 = 0)
    (s0 : a2 0 = nI a) (s2 : a2 2 = nI b) (s3 : a2 3 = nI 1) (s4 : a2 4 = nI c) (s6 : a2 6 = nI d)
    (h : ∀ b3 b4 b5 b6 : Nat → Int32, b3 1 = nI (b + 1 + c + d) → post (pw, 7, un, 1, la, lr, gc, a1, a2, b3, b4, b5, b6, a7, a8, a9, a10)) :
    wpX_measure post (pw, 7, un, 0, la, lr, gc, a1, a2, a3, a4, a5, a6, a7, a8, a9, a10) := by
  refine br_t rfl ⟨0 + 1 + 1 + 1 + 1 + 1 + 1 + 1 + 1, ?_⟩
  refine ps_mW (k := 0) (by omega) h0 (ps_mO (k := 1) (by omega) h1 (fun b4 b5 e4 e5 => ps_mW (k := 2) (by omega) h2 (ps_mB (k := 3) (by omega) h3
    (ps_mW (k := 4) (by omega) h4 (ps_mC (k := 5) (by omega) h5 (fun b6 e6 => ps_mW (k := 6) (by omega) h6 (ps_mX (by rw [e6, e5]; rfl) (fun b3 e3 => h b3 b4 b5 b6 ?_))))))))
  rw [e3, e4, s0, s2, s3, s4, s6, ← nI_0, nI_add, nI_add, nI_add, nI_add, nI_add, pk_sub (by omega)]
  exact congrArg nI (by omega)
end PSa
end
section
/-! the second half: layOut over the same seven pieces, at width x1 -/
section PSb
variable {post : St2 → Prop} {pw un me la lr gc x1 x2 x3 x4 z : Int32} {a1 a2 a3 a4 a5 a6 a7 a8 a9 a10 : Nat → Int32}
variable {J : Int32 → Int32 → Int32 → Int32 → Int32 → (Nat → Int32) → (Nat → Int32) → (Nat → Int32) → (Nat → Int32) → (Nat → Int32) → (Nat → Int32) → (Nat → Int32) → (Nat → Int32) → (Nat → Int32) → (Nat → Int32) → Prop}
theorem ps_nb0 : vp_nar .boolean 0 = 0 := by decide
theorem ps_nb1 : vp_nar .boolean 1 = 1 := by decide
theorem ps_232 {k : Nat} (h : ∀ g, J x2 x3 x4 (nI (k + 1)) g a1 a2 a3 a4 a5 a6 a7 a8 a9 a10) :
    wX_layOut_232 post J x1 x2 x3 x4 (nI k) pw 7 un me la lr gc a1 a2 a3 a4 a5 a6 a7 a8 a9 a10 :=
  br_c (fun _ => nm_r (nI_1 k) (h gc)) (fun _ => nm_r (nI_1 k) (h x3))
theorem ps_199 {k : Nat} (hk : k < 7) (h : ∀ g, J x2 (x3 + a2 k) x4 (nI (k + 1)) g a1 a2 a3 a4 a5 a6 a7 a8 a9 a10) :
    wX_layOut_199 post J x1 x2 x3 x4 (nI k) pw 7 un me la lr gc a1 a2 a3 a4 a5 a6 a7 a8 a9 a10 :=
  ⟨pk_in k 60 (by omega), nm_r (by rw [nI_clamp (by omega)]) (ps_232 h)⟩
/-- a word -/
theorem ps_58W {k : Nat} (hk : k < 7) (h1 : a1 k = 0) (h : ∀ g, J x2 (x3 + a2 k) x4 (nI (k + 1)) g a1 a2 a3 a4 a5 a6 a7 a8 a9 a10) :
    wX_layOut_58 post J x1 x2 x3 x4 (nI k) z pw 7 un me la lr gc a1 a2 a3 a4 a5 a6 a7 a8 a9 a10 := by
  have e : (nI k).toNatClampNeg = k := nI_clamp (by omega)
  have hin : vp_in (nI k) 60 := pk_in k 60 (by omega)
  exact ⟨hin, br_f (by rw [e, h1]; decide) ⟨hin, br_f (by rw [e, h1]; decide) ⟨hin, br_t (by rw [e, h1]) (ps_199 hk h)⟩⟩⟩
/-- a group ends -/
theorem ps_58C {k : Nat} (hk : k < 7) (h1 : a1 k = 3) (h : ∀ g, J x2 x3 0 (nI (k + 1)) g a1 a2 a3 a4 a5 a6 a7 a8 a9 a10) :
    wX_layOut_58 post J x1 x2 x3 1 (nI k) z pw 7 un me la lr gc a1 a2 a3 a4 a5 a6 a7 a8 a9 a10 := by
  have e : (nI k).toNatClampNeg = k := nI_clamp (by omega)
  have hin : vp_in (nI k) 60 := pk_in k 60 (by omega)
  exact ⟨hin, br_f (by rw [e, h1]; decide) ⟨hin, br_t (by rw [e, h1]) (nm_r (e' := 0) (by decide) (ps_232 h))⟩⟩
/-- a break in a flat group -/
theorem ps_58F {k : Nat} (hk : k < 7) (h1 : a1 k = 1) (h9 : a9 1 = 1) (h : ∀ g, J x2 (x3 + a2 k) x4 (nI (k + 1)) g a1 a2 a3 a4 a5 a6 a7 a8 a9 a10) :
    wX_layOut_58 post J x1 x2 x3 x4 (nI k) 1 pw 7 un me la lr gc a1 a2 a3 a4 a5 a6 a7 a8 a9 a10 := by
  have e : (nI k).toNatClampNeg = k := nI_clamp (by omega)
  have hin : vp_in (nI k) 60 := pk_in k 60 (by omega)
  exact ⟨hin, br_f (by rw [e, h1]; decide) ⟨hin, br_f (by rw [e, h1]; decide) ⟨hin, br_f (by rw [e, h1]; decide) (br_f (by decide) ⟨pk_in 1 60 (by omega), br_f (by rw [ps_c1, h9]; decide) (ps_199 hk h)⟩)⟩⟩⟩
/-- a break in a group that isn't flat -/
theorem ps_58N {k : Nat} (hk : k < 7) (h1 : a1 k = 1) (h9 : a9 1 = 0) (h : ∀ g, J (x2 + 1) (a10 1) x4 (nI (k + 1)) g a1 a2 a3 a4 a5 a6 a7 a8 a9 a10) :
    wX_layOut_58 post J x1 x2 x3 x4 (nI k) 1 pw 7 un me la lr gc a1 a2 a3 a4 a5 a6 a7 a8 a9 a10 := by
  have e : (nI k).toNatClampNeg = k := nI_clamp (by omega)
  have hin : vp_in (nI k) 60 := pk_in k 60 (by omega)
  have t : wX_layOut_212 post J x1 x2 x4 (nI k) 1 pw 7 un me la lr gc a1 a2 a3 a4 a5 a6 a7 a8 a9 a10 :=
    nm_e (br_t (by decide) ⟨pk_in 1 60 (by omega), ps_232 (x3 := a10 1) h⟩)
  exact ⟨hin, br_f (by rw [e, h1]; decide) ⟨hin, br_f (by rw [e, h1]; decide) ⟨hin, br_f (by rw [e, h1]; decide) (br_f (by decide) ⟨pk_in 1 60 (by omega), br_t (by rw [ps_c1, h9]) t⟩)⟩⟩⟩
/-- a group begins, none stands around it -/
theorem ps_110 {k : Nat} {f : Int32} (hk : k < 7) (hf : vp_nar .boolean f = f)
    (h : ∀ (g : Int32) (b5 b9 b10 : Nat → Int32), b5 0 = nI k → b9 k = f → b10 k = 0 + a2 k → J x2 x3 1 (nI (k + 1)) g a1 a2 a3 a4 b5 a6 a7 a8 b9 b10) :
    wX_layOut_110 post J x1 x2 x3 0 (nI k) (-1) f (nI k) pw 7 un me la lr gc a1 a2 a3 a4 a5 a6 a7 a8 a9 a10 := by
  have e : (nI k).toNatClampNeg = k := nI_clamp (by omega)
  have hin : vp_in (nI k) 60 := pk_in k 60 (by omega)
  exact ⟨hin, fun b9 e9 => br_f (by decide) ⟨hin, hin, fun b10 e10 => ⟨pk_in 0 12 (by omega), fun b5 e5 => nm_r (e' := 1) (by decide)
    (ps_232 (fun g => h g b5 b9 b10 (by rw [e5, ps_c0, pk_us]) (by rw [e9, e, pk_us, hf]) (by rw [e10, e, pk_us])))⟩⟩⟩
theorem ps_58O {k : Nat} (hk : k < 7) (h1 : a1 k = 2)
    (hn : x1 < x3 + a3 k → ∀ (g : Int32) (b5 b9 b10 : Nat → Int32), b5 0 = nI k → b9 k = 0 → b10 k = 0 + a2 k → J x2 x3 1 (nI (k + 1)) g a1 a2 a3 a4 b5 a6 a7 a8 b9 b10)
    (hf : ¬ x1 < x3 + a3 k → ∀ (g : Int32) (b5 b9 b10 : Nat → Int32), b5 0 = nI k → b9 k = 1 → b10 k = 0 + a2 k → J x2 x3 1 (nI (k + 1)) g a1 a2 a3 a4 b5 a6 a7 a8 b9 b10) :
    wX_layOut_58 post J x1 x2 x3 0 (nI k) (-1) pw 7 un me la lr gc a1 a2 a3 a4 a5 a6 a7 a8 a9 a10 := by
  have e : (nI k).toNatClampNeg = k := nI_clamp (by omega)
  have hin : vp_in (nI k) 60 := pk_in k 60 (by omega)
  have t : wX_layOut_92 post J x1 x2 x3 0 (nI k) (-1) (nI k) pw 7 un me la lr gc a1 a2 a3 a4 a5 a6 a7 a8 a9 a10 :=
    ⟨hin, br_c (fun z => ps_110 hk ps_nb0 (hn (by rw [e] at z; exact z))) (fun z => ps_110 hk ps_nb1 (hf (by rw [e] at z; exact z)))⟩
  exact ⟨hin, br_t (by rw [e, h1]) (br_t (by decide) t)⟩
/-- a turn of the loop outside of every group -/
theorem ps_l0 {n k : Nat} (hk : k < 7)
    (h : ∀ b7 b8 : Nat → Int32, b8 k = x3 → wX_layOut_58 post (wX_layOut_15 post x1 pw 7 un me la lr n) x1 x2 x3 0 (nI k) (-1) pw 7 un me la lr gc a1 a2 a3 a4 a5 a6 b7 b8 a9 a10) :
    wX_layOut_15 post x1 pw 7 un me la lr (n + 1) x2 x3 0 (nI k) gc a1 a2 a3 a4 a5 a6 a7 a8 a9 a10 := by
  have e : (nI k).toNatClampNeg = k := nI_clamp (by omega)
  have hin : vp_in (nI k) 60 := pk_in k 60 (by omega)
  exact pk_le 7 k (fun z => absurd z (by omega)) (fun _ => ⟨hin, fun b7 _ => ⟨hin, fun b8 e8 => br_t rfl (h b7 b8 (by rw [e8, e, pk_us]))⟩⟩)
/-- a turn of the loop inside the one group -/
theorem ps_l1 {n k : Nat} (hk : k < 7) (h5 : a5 0 = 1)
    (h : ∀ b7 b8 : Nat → Int32, b8 k = x3 → wX_layOut_58 post (wX_layOut_15 post x1 pw 7 un me la lr n) x1 x2 x3 1 (nI k) 1 pw 7 un me la lr gc a1 a2 a3 a4 a5 a6 b7 b8 a9 a10) :
    wX_layOut_15 post x1 pw 7 un me la lr (n + 1) x2 x3 1 (nI k) gc a1 a2 a3 a4 a5 a6 a7 a8 a9 a10 := by
  have e : (nI k).toNatClampNeg = k := nI_clamp (by omega)
  have e0 : ((1 : Int32) - 1).toNatClampNeg = 0 := by decide
  have hin : vp_in (nI k) 60 := pk_in k 60 (by omega)
  exact pk_le 7 k (fun z => absurd z (by omega)) (fun _ => ⟨hin, fun b7 _ => ⟨hin, fun b8 e8 => br_f (by decide) ⟨pk_in 0 12 (by omega), (by rw [e0, h5]; exact h b7 b8 (by rw [e8, e, pk_us]))⟩⟩⟩)
theorem ps_lX {n : Nat} (h : post (pw, 7, un, me, la, x2, gc, a1, a2, a3, a4, a5, a6, a7, a8, a9, a10)) :
    wX_layOut_15 post x1 pw 7 un me la lr (n + 1) x2 x3 x4 (nI 7) gc a1 a2 a3 a4 a5 a6 a7 a8 a9 a10 :=
  br_t (by decide) h
/-- layOut: one row if all fits, else two, the second at the group's margin -/
theorem ps_layOut {a b c d i w : Nat} (ba : a ≤ 20) (bb : b ≤ 20) (bc : c ≤ 20) (bd : d ≤ 20) (bw : w ≤ 100)
    (h0 : a1 0 = 0) (h1 : a1 1 = 2) (h2 : a1 2 = 0) (h3 : a1 3 = 1) (h4 : a1 4 = 0) (h5 : a1 5 = 3) (h6 : a1 6 = 0)
    (s0 : a2 0 = nI a) (s1 : a2 1 = nI i) (s2 : a2 2 = nI b) (s3 : a2 3 = nI 1) (s4 : a2 4 = nI c) (r : a3 1 = nI (b + 1 + c + d))
    (hf : a + b + 1 + c + d ≤ w → ∀ (g : Int32) (b5 b7 b8 b9 b10 : Nat → Int32), b9 1 = 1 → b8 6 = nI (a + b + 1 + c) → post (pw, 7, un, me, la, 0, g, a1, a2, a3, a4, b5, a6, b7, b8, b9, b10))
    (hn : w < a + b + 1 + c + d → ∀ (g : Int32) (b5 b7 b8 b9 b10 : Nat → Int32), b9 1 = 0 → b8 6 = nI (i + c) → post (pw, 7, un, me, la, 1, g, a1, a2, a3, a4, b5, a6, b7, b8, b9, b10)) :
    wpX_layOut post (pw, 7, un, me, la, lr, gc, a1, a2, a3, a4, a5, a6, a7, a8, a9, a10) (nI w) := by
  have er : (0 : Int32) + a2 0 + a3 1 = nI (a + b + 1 + c + d) := by
    rw [s0, r, ← nI_0, nI_add, nI_add]
    exact congrArg nI (by omega)
  refine ⟨0 + 1 + 1 + 1 + 1 + 1 + 1 + 1 + 1, ?_⟩
  refine ps_l0 (k := 0) (by omega) (fun _ _ _ => ps_58W (by omega) h0 (fun _ => ps_l0 (k := 1) (by omega) (fun _ _ _ => ps_58O (by omega) h1 (fun z => ?_) (fun z => ?_))))
  · have hw : w < a + b + 1 + c + d := by
      rw [er] at z
      exact (nI_ltI (by omega) (by omega)).mp z
    refine fun _ b5 b9 b10 e5 e9 e10 => ps_l1 (k := 2) (by omega) e5 (fun _ _ _ => ps_58W (by omega) h2 (fun _ => ps_l1 (k := 3) (by omega) e5 (fun _ _ _ => ps_58N (by omega) h3 e9
      (fun _ => ps_l1 (k := 4) (by omega) e5 (fun _ _ _ => ps_58W (by omega) h4 (fun _ => ps_l1 (k := 5) (by omega) e5 (fun _ _ _ => ps_58C (by omega) h5
      (fun _ => ps_l0 (k := 6) (by omega) (fun b7 b8 e8 => ps_58W (by omega) h6 (fun g => ps_lX (hn hw g b5 b7 b8 b9 b10 e9 ?_)))))))))))
    rw [e8, e10, s1, s4, ← nI_0, nI_add, nI_add]
    exact congrArg nI (by omega)
  · have hw : a + b + 1 + c + d ≤ w := by
      rw [er] at z
      have z' : ¬ w < a + b + 1 + c + d := fun q => z ((nI_ltI (by omega) (by omega)).mpr q)
      omega
    refine fun _ b5 b9 b10 e5 e9 e10 => ps_l1 (k := 2) (by omega) e5 (fun _ _ _ => ps_58W (by omega) h2 (fun _ => ps_l1 (k := 3) (by omega) e5 (fun _ _ _ => ps_58F (by omega) h3 e9
      (fun _ => ps_l1 (k := 4) (by omega) e5 (fun _ _ _ => ps_58W (by omega) h4 (fun _ => ps_l1 (k := 5) (by omega) e5 (fun _ _ _ => ps_58C (by omega) h5
      (fun _ => ps_l0 (k := 6) (by omega) (fun b7 b8 e8 => ps_58W (by omega) h6 (fun g => ps_lX (hf hw g b5 b7 b8 b9 b10 e9 ?_)))))))))))
    rw [e8, s0, s2, s3, s4, ← nI_0, nI_add, nI_add, nI_add, nI_add]
    exact congrArg nI (by omega)
end PSb
end
section
/-! the pieces, the questions -/
section PSc
variable {post : St2 → Prop} {qost : Int32 → St2 → Prop} {pw un me la lr gc s l : Int32} {a1 a2 a3 a4 a5 a6 a7 a8 a9 a10 : Nat → Int32}
theorem ps_add {k : Nat} (hk : k < 60) (h : qost (nI (k + 1)) (pw, nI (k + 1), un, 0, 0, lr, gc, upd a1 k s, upd a2 k l, a3, a4, a5, a6, a7, a8, a9, a10)) :
    wpX_addPiece qost (pw, nI k, un, me, la, lr, gc, a1, a2, a3, a4, a5, a6, a7, a8, a9, a10) s l := by
  have e : (nI k).toNatClampNeg = k := nI_clamp (by omega)
  have hin : vp_in (nI k) 60 := pk_in k 60 hk
  exact pk_lt k 60 (fun _ => ⟨hin, nm_r (by rw [e]) ⟨hin, nm_r (by rw [e]) (nm_r (nI_1 k) h)⟩⟩) (fun z => absurd z (by omega))
theorem ps_word {k v : Nat} (hk : k < 60) (h1 : 1 ≤ v) (h2 : v ≤ 20) (h : qost (nI (k + 1)) (pw, nI (k + 1), un, 0, 0, lr, gc, upd a1 k 0, upd a2 k (nI v), a3, a4, a5, a6, a7, a8, a9, a10)) :
    wpX_word qost (pw, nI k, un, me, la, lr, gc, a1, a2, a3, a4, a5, a6, a7, a8, a9, a10) (nI v) :=
  pk_lt v 1 (fun z => absurd z (by omega)) (fun _ => pk_le v 20 (fun _ => ps_add hk h) (fun z => absurd z (by omega)))
theorem ps_brk {k : Nat} (hk : k < 60) (h : qost (nI (k + 1)) (pw, nI (k + 1), un, 0, 0, lr, gc, upd a1 k 1, upd a2 k 1, a3, a4, a5, a6, a7, a8, a9, a10)) :
    wpX_lineBreak qost (pw, nI k, un, me, la, lr, gc, a1, a2, a3, a4, a5, a6, a7, a8, a9, a10) := by
  unfold wpX_lineBreak
  exact ps_add hk h
theorem ps_opn {k v : Nat} (hk : k < 60) (hv : v ≤ 8) (h : qost (nI (k + 1)) (pw, nI (k + 1), 1, 0, 0, lr, gc, upd a1 k 2, upd a2 k (nI v), a3, a4, a5, a6, a7, a8, a9, a10)) :
    wpX_open qost (pw, nI k, 0, me, la, lr, gc, a1, a2, a3, a4, a5, a6, a7, a8, a9, a10) (nI v) :=
  br_f (nI_pos (by omega)) (pk_lt 8 v (fun z => absurd z (by omega)) (fun _ => br_t (by decide) (ps_add hk (br_t (nI_pos' (by omega)) (nm_r (e' := 1) (by decide) h)))))
theorem ps_cls {k : Nat} (hk : k < 60) (h : qost (nI (k + 1)) (pw, nI (k + 1), 0, 0, 0, lr, gc, upd a1 k 3, upd a2 k 0, a3, a4, a5, a6, a7, a8, a9, a10)) :
    wpX_close qost (pw, nI k, 1, me, la, lr, gc, a1, a2, a3, a4, a5, a6, a7, a8, a9, a10) :=
  br_f (by decide) (ps_add hk (br_t (nI_pos' (by omega)) (nm_r (e' := 0) (by decide) h)))
theorem ps_init {w : Nat} (h1 : 1 ≤ w) (h2 : w ≤ 100) (h : post (nI w, 0, 0, 0, 0, 0, 0, (fun _ => 0), (fun _ => 0), (fun _ => 0), (fun _ => 0), (fun _ => 0), (fun _ => 0), (fun _ => 0), (fun _ => 0), (fun _ => 0), (fun _ => 0))) :
    wpX_init post 10 552 (0, 0, 0, 0, 0, 0, 0) (nI w) := by
  unfold wpX_init
  refine ⟨by omega, by omega, by omega, by omega, by omega, by omega, by omega, by omega, by omega, by omega, by omega, by omega, by omega, by omega, by omega, by omega, by omega, by omega, by omega, by omega, ?_⟩
  exact pk_le 1 w (fun _ => pk_le w 100 (fun _ => h) (fun z => absurd z (by omega))) (fun z => absurd z (by omega))
/-- prepare, asked for the first time -/
theorem ps_prep {a b c d i w : Nat} (ba : a ≤ 20) (bb : b ≤ 20) (bc : c ≤ 20) (bd : d ≤ 20) (bw : w ≤ 100)
    (h0 : a1 0 = 0) (h1 : a1 1 = 2) (h2 : a1 2 = 0) (h3 : a1 3 = 1) (h4 : a1 4 = 0) (h5 : a1 5 = 3) (h6 : a1 6 = 0)
    (s0 : a2 0 = nI a) (s1 : a2 1 = nI i) (s2 : a2 2 = nI b) (s3 : a2 3 = nI 1) (s4 : a2 4 = nI c) (s6 : a2 6 = nI d)
    (hf : a + b + 1 + c + d ≤ w → ∀ (g : Int32) (b3 b4 b5 b6 b7 b8 b9 b10 : Nat → Int32), b9 1 = 1 → b8 6 = nI (a + b + 1 + c) → post (nI w, 7, un, 1, 1, 0, g, a1, a2, b3, b4, b5, b6, b7, b8, b9, b10))
    (hn : w < a + b + 1 + c + d → ∀ (g : Int32) (b3 b4 b5 b6 b7 b8 b9 b10 : Nat → Int32), b9 1 = 0 → b8 6 = nI (i + c) → post (nI w, 7, un, 1, 1, 1, g, a1, a2, b3, b4, b5, b6, b7, b8, b9, b10)) :
    wpX_prepare post (nI w, 7, un, 0, 0, lr, gc, a1, a2, a3, a4, a5, a6, a7, a8, a9, a10) :=
  br_t rfl (ps_measure h0 h1 h2 h3 h4 h5 h6 s0 s2 s3 s4 s6 (fun b3 b4 _ b6 r => ps_layOut ba bb bc bd bw h0 h1 h2 h3 h4 h5 h6 s0 s1 s2 s3 s4 r
    (fun hw g b5 b7 b8 b9 b10 e9 e8 => hf hw g b3 b4 b5 b6 b7 b8 b9 b10 e9 e8)
    (fun hw g b5 b7 b8 b9 b10 e9 e8 => hn hw g b3 b4 b5 b6 b7 b8 b9 b10 e9 e8)))
/-- prepare, asked again -/
theorem ps_prep1 (h : post (pw, 7, un, me, 1, lr, gc, a1, a2, a3, a4, a5, a6, a7, a8, a9, a10)) :
    wpX_prepare post (pw, 7, un, me, 1, lr, gc, a1, a2, a3, a4, a5, a6, a7, a8, a9, a10) :=
  br_f (by decide) h
theorem ps_flat {a b c d i w : Nat} (ba : a ≤ 20) (bb : b ≤ 20) (bc : c ≤ 20) (bd : d ≤ 20) (bw : w ≤ 100)
    (h0 : a1 0 = 0) (h1 : a1 1 = 2) (h2 : a1 2 = 0) (h3 : a1 3 = 1) (h4 : a1 4 = 0) (h5 : a1 5 = 3) (h6 : a1 6 = 0)
    (s0 : a2 0 = nI a) (s1 : a2 1 = nI i) (s2 : a2 2 = nI b) (s3 : a2 3 = nI 1) (s4 : a2 4 = nI c) (s6 : a2 6 = nI d)
    (hf : a + b + 1 + c + d ≤ w → ∀ (g : Int32) (b3 b4 b5 b6 b7 b8 b9 b10 : Nat → Int32), b8 6 = nI (a + b + 1 + c) → qost 1 (nI w, 7, un, 1, 1, 0, g, a1, a2, b3, b4, b5, b6, b7, b8, b9, b10))
    (hn : w < a + b + 1 + c + d → ∀ (g : Int32) (b3 b4 b5 b6 b7 b8 b9 b10 : Nat → Int32), b8 6 = nI (i + c) → qost 0 (nI w, 7, un, 1, 1, 1, g, a1, a2, b3, b4, b5, b6, b7, b8, b9, b10)) :
    wpX_flat qost (nI w, 7, un, 0, 0, lr, gc, a1, a2, a3, a4, a5, a6, a7, a8, a9, a10) 1 :=
  br_f (by decide) (br_f (by decide) ⟨pk_in 1 60 (by omega), br_t (by rw [ps_c1, h1]) (ps_prep ba bb bc bd bw h0 h1 h2 h3 h4 h5 h6 s0 s1 s2 s3 s4 s6
    (fun hw g b3 b4 b5 b6 b7 b8 b9 b10 e9 e8 => ⟨pk_in 1 60 (by omega), br_f (by rw [ps_c1, e9]; decide) (hf hw g b3 b4 b5 b6 b7 b8 b9 b10 e8)⟩)
    (fun hw g b3 b4 b5 b6 b7 b8 b9 b10 e9 e8 => ⟨pk_in 1 60 (by omega), br_t (by rw [ps_c1, e9]) (hn hw g b3 b4 b5 b6 b7 b8 b9 b10 e8)⟩))⟩)
theorem ps_rows (h : qost (lr + 1) (pw, 7, un, me, 1, lr, gc, a1, a2, a3, a4, a5, a6, a7, a8, a9, a10)) :
    wpX_rows qost (pw, 7, un, me, 1, lr, gc, a1, a2, a3, a4, a5, a6, a7, a8, a9, a10) := by
  unfold wpX_rows
  exact ps_prep1 h
theorem ps_col6 (h : qost (a8 6) (pw, 7, un, me, 1, lr, gc, a1, a2, a3, a4, a5, a6, a7, a8, a9, a10)) :
    wpX_column qost (pw, 7, un, me, 1, lr, gc, a1, a2, a3, a4, a5, a6, a7, a8, a9, a10) 6 :=
  br_f (by decide) (br_t (by decide) (ps_prep1 ⟨pk_in 6 60 (by omega), h⟩))
end PSc
end
section
/-! the law: three questions over the one page -/
theorem ps_cell {post : Int32 → Prop} {L : Nat} {xs : Nat → Int32} {u : St0} {p : Int32} (k : Nat) (hp : p = nI k) (hk : k ≤ 5) (hL : L ≤ 6) (h : ∀ v, post v) : wpL_cellAt post L xs u p := by
  subst hp
  exact pk_le L k (fun _ => h 0) (fun z => ⟨pk_in k L z, h _⟩)
theorem ps_and (p : Int32) (m : Nat) (h0 : 0 < m) (hm : m ≤ 100) : ∃ v, v < m ∧ (p &&& 255) - (p &&& 255) / nI m * nI m = nI v := by
  obtain ⟨j, hj, e⟩ := pk_andE p (m := 255) 8 (by decide)
  rw [e, pk_rem (by omega) h0 (by omega)]
  exact ⟨j % m, Nat.mod_lt _ h0, rfl⟩
theorem ps_clamp {post : Int32 → Prop} {u : St0} {p q : Int32} (m : Nat) (hq : q = nI m) (h0 : 0 < m) (hm : m ≤ 100) (h : ∀ v, 1 ≤ v → v ≤ m → post (nI v)) : wpL_clamp post u p q := by
  subst hq
  obtain ⟨v, hv, e⟩ := ps_and p m h0 hm
  refine ⟨nI_ne0 h0 (by omega), ?_⟩
  rw [e, show (1 : Int32) = nI 1 from rfl, nI_add]
  exact h (1 + v) (by omega) (by omega)
theorem ps_215 {post : Int32 → St0 → Prop} {mc ms kc ks : Nat} {y z : Int32} (e : z = y) (h : post 1 ()) : wL_lawOf_215 post mc ms y z kc ks := br_t e h
section PSd
variable {post : Int32 → St0 → Prop} {mc ms kc ks : Nat} {lr gc : Int32} {a1 a2 a3 a4 a5 a6 a7 a8 a9 a10 : Nat → Int32}
/-- the questions, where all fits in one row -/
theorem ps_144f {a b c d i w : Nat} (ba : a ≤ 20) (bb : b ≤ 20) (bc : c ≤ 20) (bd : d ≤ 20) (bw : w ≤ 100) (hw : a + b + 1 + c + d ≤ w)
    (h0 : a1 0 = 0) (h1 : a1 1 = 2) (h2 : a1 2 = 0) (h3 : a1 3 = 1) (h4 : a1 4 = 0) (h5 : a1 5 = 3) (h6 : a1 6 = 0)
    (s0 : a2 0 = nI a) (s1 : a2 1 = nI i) (s2 : a2 2 = nI b) (s3 : a2 3 = nI 1) (s4 : a2 4 = nI c) (s6 : a2 6 = nI d) (h : post 1 ()) :
    wL_lawOf_144 post mc ms (nI a) (nI b) (nI c) (nI i) 1 kc ks (nI w) 7 0 0 0 lr gc a1 a2 a3 a4 a5 a6 a7 a8 a9 a10 := by
  unfold wL_lawOf_144
  refine ps_flat ba bb bc bd bw h0 h1 h2 h3 h4 h5 h6 s0 s1 s2 s3 s4 s6 (fun _ g b3 b4 b5 b6 b7 b8 b9 b10 e8 => ?_) (fun z => absurd z (by omega))
  refine br_f (by decide) (br_t rfl (ps_rows (br_f (by decide) (br_t (by decide) (ps_col6 (br_f (by decide) (ps_215 ?_ h)))))))
  rw [e8, show (1 : Int32) = nI 1 from rfl, nI_add, nI_add, nI_add]
/-- the questions, where the group breaks -/
theorem ps_144n {a b c d i w : Nat} (ba : a ≤ 20) (bb : b ≤ 20) (bc : c ≤ 20) (bd : d ≤ 20) (bw : w ≤ 100) (hw : w < a + b + 1 + c + d)
    (h0 : a1 0 = 0) (h1 : a1 1 = 2) (h2 : a1 2 = 0) (h3 : a1 3 = 1) (h4 : a1 4 = 0) (h5 : a1 5 = 3) (h6 : a1 6 = 0)
    (s0 : a2 0 = nI a) (s1 : a2 1 = nI i) (s2 : a2 2 = nI b) (s3 : a2 3 = nI 1) (s4 : a2 4 = nI c) (s6 : a2 6 = nI d) (h : post 1 ()) :
    wL_lawOf_144 post mc ms (nI a) (nI b) (nI c) (nI i) 0 kc ks (nI w) 7 0 0 0 lr gc a1 a2 a3 a4 a5 a6 a7 a8 a9 a10 := by
  unfold wL_lawOf_144
  refine ps_flat ba bb bc bd bw h0 h1 h2 h3 h4 h5 h6 s0 s1 s2 s3 s4 s6 (fun z => absurd z (by omega)) (fun _ g b3 b4 b5 b6 b7 b8 b9 b10 e8 => ?_)
  refine br_t rfl (br_t rfl (ps_rows (br_t rfl (br_t (by decide) (ps_col6 (br_t rfl (ps_215 ?_ h)))))))
  rw [e8, nI_add]
end PSd
theorem ps_lawOf {post : Int32 → St0 → Prop} {p0 p1 p2 p3 p4 p5 : Int32} (h : post 1 ()) : wpL_lawOf post 284 4544 () p0 p1 p2 p3 p4 p5 := by
  unfold wpL_lawOf
  refine ps_clamp 20 rfl (by omega) (by omega) (fun a a1 a2 => ps_clamp 20 rfl (by omega) (by omega) (fun b b1 b2 => ps_clamp 20 rfl (by omega) (by omega) (fun c c1 c2 =>
    ps_clamp 20 rfl (by omega) (by omega) (fun d d1 d2 => ps_clamp 100 rfl (by omega) (by omega) (fun w w1 w2 => ?_)))))
  obtain ⟨i, hi, ei⟩ := ps_and p5 9 (by omega) (by omega)
  refine ⟨by decide, nm_r ei ⟨by omega, by omega, 10, 552, by omega, by omega, ps_init w1 w2 ?_⟩⟩
  refine ps_word (k := 0) (by omega) a1 a2 (ps_opn (by omega) (by omega) (ps_word (by omega) b1 b2 (ps_brk (by omega) (ps_word (by omega) c1 c2 (ps_cls (by omega) (ps_word (by omega) d1 d2 (br_t (by decide) ?_)))))))
  have es : nI a + nI b + 1 + nI c + nI d = nI (a + b + 1 + c + d) := by
    rw [show (1 : Int32) = nI 1 from rfl, nI_add, nI_add, nI_add, nI_add]
  refine pk_lt w (a + b + 1 + c + d) (fun z => ?_) (fun z => ?_) rfl es
  · exact ps_144n (d := d) a2 b2 c2 d2 w2 z rfl rfl rfl rfl rfl rfl rfl rfl rfl rfl rfl rfl rfl h
  · exact ps_144f (d := d) a2 b2 c2 d2 w2 z rfl rfl rfl rfl rfl rfl rfl rfl rfl rfl rfl rfl rfl h
theorem i_vc (xs : Nat → Int32) (L : Nat) (hL : L ≤ 6) : wpL_law (fun r => r = 1) L xs := by
  unfold wpL_law
  exact ps_cell 0 rfl (by omega) hL (fun _ => ps_cell 1 rfl (by omega) hL (fun _ => ps_cell 2 rfl (by omega) hL (fun _ => ps_cell 3 rfl (by omega) hL (fun _ => ps_cell 4 rfl (by omega) hL (fun _ => ps_cell 5 rfl (by omega) hL
    (fun _ => ⟨284, 4544, by omega, by omega, ps_lawOf rfl⟩))))))
end

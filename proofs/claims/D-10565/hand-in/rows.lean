section
/-! ===== places, bits, stores ===== -/
theorem cc_i0 : vp_in 0 8 := pk_in 0 8 (by decide)
theorem cc_i1 : vp_in 1 8 := pk_in 1 8 (by decide)
theorem cc_k0 : Int32.toNatClampNeg 0 = 0 := pk_cl 0
theorem cc_k1 : Int32.toNatClampNeg 1 = 1 := pk_cl 1
theorem cc_bt {v x : Int32} (w : Int32) (h : v = w) (hd : ((w.toUInt32 >>> (x.toUInt32 &&& Int32.toUInt32 31)).toInt32 &&& 1) = 0) : ((v.toUInt32 >>> (x.toUInt32 &&& Int32.toUInt32 31)).toInt32 &&& 1) = 0 := by
  rw [h]; exact hd
theorem cc_bf {v x : Int32} (w : Int32) (h : v = w) (hd : ¬ ((w.toUInt32 >>> (x.toUInt32 &&& Int32.toUInt32 31)).toInt32 &&& 1) = 0) : ¬ ((v.toUInt32 >>> (x.toUInt32 &&& Int32.toUInt32 31)).toInt32 &&& 1) = 0 := by
  rw [h]; exact hd
theorem cc_us {f b : Nat → Int32} {k j : Nat} {x : Int32} (e : b = upd f k x) (hk : k = j) : b j = x := by
  subst hk; rw [e]; exact pk_us
theorem cc_un {f b : Nat → Int32} {k k' j : Nat} {x : Int32} (e : b = upd f k x) (hk : k = k') (hj : j ≠ k') : b j = f j := by
  subst hk; rw [e]; exact pk_un hj
theorem cc_ge1 {x : Int32} (h : ¬ x < 0) (h0 : ¬ x = 0) : (1 : Int32) ≤ x := by
  obtain ⟨j, hj, rfl⟩ := nI_of h
  have hj0 : j ≠ 0 := fun z => h0 (by rw [z]; rfl)
  exact nI_le (a := 1) (b := j) (by omega) hj
/-! ===== the small questions ===== -/
section
variable {a1 a2 a3 a4 a5 a6 : Nat → Int32}
theorem cc_srcM {post : Int32 → Prop} {c q : Int32} (H : post 1) : wpX_isSource post (c, a1, a2, a3, a4, a5, a6) (-1) q :=
  br_t rfl H
theorem cc_src0 {post : Int32 → Prop} {p q : Int32} (h : ¬ p = -1) (H : post 0) : wpX_isSource post (0, a1, a2, a3, a4, a5, a6) p q :=
  br_f h (br_c (fun _ => H) (fun hn => br_t (Int32.not_lt.mp hn) H))
theorem cc_srcW {post : Int32 → Prop} {q : Int32} (h3 : ¬ a3 0 = 0) (h2 : a2 0 = q) (H : post 1) : wpX_isSource post (1, a1, a2, a3, a4, a5, a6) 0 q :=
  br_f (by decide) (br_f (by decide) (br_f (by decide) ⟨cc_i0, br_f h3 ⟨cc_i0, br_t h2 H⟩⟩))
theorem cc_srcR {post : Int32 → Prop} {q : Int32} (h3 : a3 0 = 0) (H : post 0) : wpX_isSource post (1, a1, a2, a3, a4, a5, a6) 0 q :=
  br_f (by decide) (br_f (by decide) (br_f (by decide) ⟨cc_i0, br_t h3 H⟩))
theorem cc_held1 {post : Int32 → Prop} (H : post 1) : wpX_isHeld post (1, a1, a2, a3, a4, a5, a6) 0 :=
  br_f (by decide) (br_f (by decide) H)
theorem cc_heldN1 {post : Int32 → Prop} {x : Int32} (h : ¬ x = 0) (H : post 0) : wpX_isHeld post (1, a1, a2, a3, a4, a5, a6) x :=
  br_c (fun _ => H) (fun hn => br_t (cc_ge1 hn h) H)
theorem cc_heldN0 {post : Int32 → Prop} {x : Int32} (H : post 0) : wpX_isHeld post (0, a1, a2, a3, a4, a5, a6) x :=
  br_c (fun _ => H) (fun hn => br_t (Int32.not_lt.mp hn) H)
/-! ===== enter: at no operation, at one of the same user ===== -/
theorem cc_ent0 {post : St2 → Prop} {p q w s : Int32} (hw : vp_nar .boolean w = w)
    (H : ∀ b1 b2 b3 b4 b5 : Nat → Int32, b1 0 = p → b2 0 = q → b3 0 = w → b4 0 = s → b5 0 = 0 → post (1, b1, b2, b3, b4, b5, a6)) :
    wpX_enter post (0, a1, a2, a3, a4, a5, a6) p q w s := by
  refine ⟨cc_i0, fun b1 e1 => ⟨cc_i0, fun b2 e2 => ⟨cc_i0, fun b3 e3 => ⟨cc_i0, fun b4 e4 => ⟨cc_i0, fun b5 e5 => ⟨1, ?_⟩⟩⟩⟩⟩⟩
  have g3 : b3 0 = w := by rw [cc_us e3 cc_k0, hw]
  exact br_t (by decide) (nm_r (e' := (1 : Int32)) (by decide) (H b1 b2 b3 b4 b5 (cc_us e1 cc_k0) (cc_us e2 cc_k0) g3 (cc_us e4 cc_k0) (cc_us e5 cc_k0)))
theorem cc_ent1 {post : St2 → Prop} {p q s : Int32} (h1 : a1 0 = p) (h5 : a5 0 = 0)
    (H : ∀ b1 b2 b3 b4 b5 : Nat → Int32, b1 0 = a1 0 → b2 0 = a2 0 → b3 0 = a3 0 → b4 0 = a4 0 → b5 0 = 0 → b2 1 = q → b3 1 = 0 → b4 1 = s → b5 1 = 1 → post (2, b1, b2, b3, b4, b5, a6)) :
    wpX_enter post (1, a1, a2, a3, a4, a5, a6) p q 0 s := by
  refine ⟨cc_i1, fun b1 e1 => ⟨cc_i1, fun b2 e2 => ⟨cc_i1, fun b3 e3 => ⟨cc_i1, fun b4 e4 => ⟨cc_i1, fun b5 e5 => ⟨2, ?_⟩⟩⟩⟩⟩⟩
  have g1 : b1 0 = a1 0 := cc_un e1 cc_k1 (by decide)
  have g2 : b2 0 = a2 0 := cc_un e2 cc_k1 (by decide)
  have g3 : b3 0 = a3 0 := cc_un e3 cc_k1 (by decide)
  have g4 : b4 0 = a4 0 := cc_un e4 cc_k1 (by decide)
  have g5 : b5 0 = 0 := (cc_un e5 cc_k1 (by decide)).trans h5
  have k2 : b2 1 = q := cc_us e2 cc_k1
  have k3 : b3 1 = 0 := (cc_us e3 cc_k1).trans (by decide)
  have k4 : b4 1 = s := cc_us e4 cc_k1
  have k5 : b5 1 = 0 := cc_us e5 cc_k1
  refine br_f (by decide) ⟨cc_i0, br_t (show b1 0 = p from g1.trans h1) ⟨cc_i1, cc_i0, cc_i1, fun d5 ed => nm_r (e' := (1 : Int32)) (by decide) ?_⟩⟩
  have d0 : d5 0 = 0 := (cc_un ed cc_k1 (by decide)).trans g5
  have d1 : d5 1 = b5 1 ||| (((1 : Int32) <<< ((0 : Int32) &&& 31)) ||| b5 0) := cc_us ed cc_k1
  have d1' : d5 1 = 1 := by rw [d1, k5, g5]; decide
  exact br_t (by decide) (nm_r (e' := (2 : Int32)) (by decide) (H b1 b2 b3 b4 d5 g1 g2 g3 g4 d0 k2 k3 k4 d1'))
/-! ===== hasRing ===== -/
theorem cc_ring0 {post : Int32 → Prop} (H : post 0) : wpX_hasRing post (0, a1, a2, a3, a4, a5, a6) :=
  ⟨1, br_t (by decide) H⟩
theorem cc_ring1 {post : Int32 → Prop} (h : a6 0 = 0) (H : post 0) : wpX_hasRing post (1, a1, a2, a3, a4, a5, a6) :=
  ⟨2, br_f (by decide) ⟨cc_i0, br_t (cc_bt 0 h (by decide)) (nm_r (e' := (1 : Int32)) (by decide) (br_t (by decide) H))⟩⟩
theorem cc_ring2 {post : Int32 → Prop} (h : a6 0 = 0) (h1 : a6 1 = 1) (H : post 0) : wpX_hasRing post (2, a1, a2, a3, a4, a5, a6) :=
  ⟨3, br_f (by decide) ⟨cc_i0, br_t (cc_bt 0 h (by decide)) (nm_r (e' := (1 : Int32)) (by decide) (br_f (by decide) ⟨cc_i1, br_t (cc_bt 1 h1 (by decide)) (nm_r (e' := (2 : Int32)) (by decide) (br_t (by decide) H))⟩))⟩⟩
/-! ===== close ===== -/
theorem cc_15 {post : Int32 → St2 → Prop} {J : Int32 → Int32 → (Nat → Int32) → (Nat → Int32) → (Nat → Int32) → (Nat → Int32) → (Nat → Int32) → (Nat → Int32) → Prop} {w x3 c x2 x4 y : Int32} {n : Nat} (hc : ¬ c ≤ x4) (hi : vp_in x3 8)
    (hb : (((a6 x3.toNatClampNeg).toUInt32 >>> (x4.toUInt32 &&& Int32.toUInt32 31)).toInt32 &&& 1) = 0) (hy : x4 + 1 = y)
    (H : wX_close_15 post J w x3 c n x2 y a1 a2 a3 a4 a5 a6) : wX_close_15 post J w x3 c (n + 1) x2 x4 a1 a2 a3 a4 a5 a6 :=
  br_f hc (br_c (fun _ => nm_r hy H) (fun _ => ⟨hi, br_t hb (nm_r hy H)⟩))
theorem cc_close0 {post : Int32 → St2 → Prop} {w : Int32} (H : post 0 (0, a1, a2, a3, a4, a5, a6)) : wpX_close post (0, a1, a2, a3, a4, a5, a6) w :=
  ⟨1, br_t (by decide) ⟨rfl, H⟩⟩
theorem cc_close1 {post : Int32 → St2 → Prop} {w : Int32} (h : a6 0 = 0) (H : post 0 (1, a1, a2, a3, a4, a5, a6)) : wpX_close post (1, a1, a2, a3, a4, a5, a6) w :=
  ⟨2, br_f (by decide) ⟨2, cc_15 (y := 1) (by decide) cc_i0 (cc_bt 0 h (by decide)) (by decide) (br_t (by decide) (nm_r (e' := (1 : Int32)) (by decide) (br_t (by decide) ⟨rfl, H⟩)))⟩⟩
theorem cc_close2 {post : Int32 → St2 → Prop} {w : Int32} (h : a6 0 = 0) (h1 : a6 1 = 1) (H : post 0 (2, a1, a2, a3, a4, a5, a6)) : wpX_close post (2, a1, a2, a3, a4, a5, a6) w := by
  refine ⟨3, br_f (by decide) ⟨3, cc_15 (y := 1) (by decide) cc_i0 (cc_bt 0 h (by decide)) (by decide) (cc_15 (y := 2) (by decide) cc_i0 (cc_bt 0 h (by decide)) (by decide) (br_t (by decide) (nm_r (e' := (1 : Int32)) (by decide) ?_)))⟩⟩
  refine br_f (by decide) ⟨3, ?_⟩
  have T : wX_close_15 post (wX_close_4 post w 2 1) w 1 2 2 0 1 a1 a2 a3 a4 a5 a6 :=
    cc_15 (y := 2) (by decide) cc_i1 (cc_bt 1 h1 (by decide)) (by decide) (br_t (by decide) (nm_r (e' := (2 : Int32)) (by decide) (br_t (by decide) ⟨rfl, H⟩)))
  have hz : (a6 (Int32.toNatClampNeg 0) &&& (a6 (Int32.toNatClampNeg 1) ^^^ (-1))) = 0 := by
    rw [cc_k0, cc_k1, h, h1]; decide
  exact br_f (by decide) (br_c (fun _ => nm_r (e' := (1 : Int32)) (by decide) T) (fun _ => ⟨cc_i1, br_f (cc_bf 1 h1 (by decide)) ⟨cc_i0, cc_i1, br_t hz (nm_r (e' := (1 : Int32)) (by decide) T)⟩⟩))
end
end
section
section
variable {a1 a2 a3 a4 a5 a6 : Nat → Int32}
/-! ===== converges ===== -/
theorem cc_162_0 {post : Int32 → St2 → Prop} (H : post 1 (0, a1, a2, a3, a4, a5, a6)) : ∃ n, wX_converges_162 post n 1 0 0 a1 a2 a3 a4 a5 a6 :=
  ⟨2, br_f (by decide) (br_f (by decide) (cc_close0 (nm_r (e' := (1 : Int32)) (by decide) (br_f (by decide) (br_t rfl (cc_ring0 (br_t rfl H)))))))⟩
theorem cc_162_1 {post : Int32 → St2 → Prop} (h : a6 0 = 0) (H : post 1 (1, a1, a2, a3, a4, a5, a6)) : ∃ n, wX_converges_162 post n 1 0 1 a1 a2 a3 a4 a5 a6 :=
  ⟨2, br_f (by decide) (br_f (by decide) (cc_close1 h (nm_r (e' := (1 : Int32)) (by decide) (br_f (by decide) (br_t rfl (cc_ring1 h (br_t rfl H)))))))⟩
theorem cc_162_2 {post : Int32 → St2 → Prop} (h : a6 0 = 0) (h1 : a6 1 = 1) (H : post 1 (2, a1, a2, a3, a4, a5, a6)) : ∃ n, wX_converges_162 post n 1 0 2 a1 a2 a3 a4 a5 a6 :=
  ⟨2, br_f (by decide) (br_f (by decide) (cc_close2 h h1 (nm_r (e' := (1 : Int32)) (by decide) (br_f (by decide) (br_t rfl (cc_ring2 h h1 (br_t rfl H)))))))⟩
/-- a pair that isn't a read and a write -/
theorem cc_40n {post : Int32 → St2 → Prop} {J : Int32 → (Nat → Int32) → (Nat → Int32) → (Nat → Int32) → (Nat → Int32) → (Nat → Int32) → (Nat → Int32) → Prop} {c x1 x2 y : Int32} {n : Nat} (hc : ¬ c ≤ x2) (i1 : vp_in x1 8) (i2 : vp_in x2 8)
    (hs : a3 x1.toNatClampNeg = 0 → a3 x2.toNatClampNeg = 0) (hy : x2 + 1 = y)
    (H : wX_converges_40 post J x1 c n y a1 a2 a3 a4 a5 a6) : wX_converges_40 post J x1 c (n + 1) x2 a1 a2 a3 a4 a5 a6 := by
  have K : wX_converges_98 post J (wX_converges_40 post J x1 c n) x1 x2 c a1 a2 a3 a4 a5 a6 := br_t rfl (br_t rfl (nm_r hy H))
  exact br_f hc ⟨i1, br_c (fun h => ⟨i2, br_t (hs h) K⟩) (fun _ => K)⟩
/-- a read that has seen a write to its cell -/
theorem cc_40s {post : Int32 → St2 → Prop} {J : Int32 → (Nat → Int32) → (Nat → Int32) → (Nat → Int32) → (Nat → Int32) → (Nat → Int32) → (Nat → Int32) → Prop} {c x1 x2 : Int32} {n : Nat} (hc : ¬ c ≤ x2) (i1 : vp_in x1 8) (i2 : vp_in x2 8)
    (h1 : a3 x1.toNatClampNeg = 0) (h2 : ¬ a3 x2.toNatClampNeg = 0) (h3 : a2 x2.toNatClampNeg = a2 x1.toNatClampNeg)
    (hb : ¬ (((a5 x1.toNatClampNeg).toUInt32 >>> (x2.toUInt32 &&& Int32.toUInt32 31)).toInt32 &&& 1) = 0)
    (K : wX_converges_99 post J (wX_converges_40 post J x1 c n) x1 x2 1 c a1 a2 a3 a4 a5 a6) : wX_converges_40 post J x1 c (n + 1) x2 a1 a2 a3 a4 a5 a6 :=
  br_f hc ⟨i1, br_t h1 ⟨i2, br_f h2 ⟨i2, i1, br_t h3 ⟨i1, br_f hb K⟩⟩⟩⟩
theorem cc_conv0 {post : Int32 → St2 → Prop} (H : post 1 (0, a1, a2, a3, a4, a5, a6)) : wpX_converges post (0, a1, a2, a3, a4, a5, a6) :=
  ⟨1, br_t (by decide) ⟨1, br_t (by decide) (cc_162_0 H)⟩⟩
theorem cc_conv1 {post : Int32 → St2 → Prop} (h5 : a5 0 = 0) (H : ∀ m, post 1 (1, a1, a2, a3, a4, a5, m)) : wpX_converges post (1, a1, a2, a3, a4, a5, a6) := by
  refine ⟨2, br_f (by decide) ⟨cc_i0, cc_i0, fun m em => nm_r (e' := (1 : Int32)) (by decide) (br_t (by decide) ⟨2, ?_⟩)⟩⟩
  have hm : m 0 = 0 := (cc_us em cc_k0).trans h5
  exact br_f (by decide) ⟨2, cc_40n (y := 1) (by decide) cc_i0 cc_i0 (fun h => h) (by decide) (br_t (by decide) (nm_r (e' := (1 : Int32)) (by decide) (br_t (by decide) (cc_162_1 hm (H m)))))⟩
/-- the order is laid for two operations, the second behind the first; then the pairs -/
theorem cc_conv2 {post : Int32 → St2 → Prop} (h50 : a5 0 = 0) (h51 : a5 1 = 1) (h31 : a3 1 = 0)
    (H : ∀ m : Nat → Int32, m 0 = 0 → m 1 = 1 → ∃ n, wX_converges_40 post (wX_converges_30 post 2 1) 1 2 n 0 a1 a2 a3 a4 a5 m) : wpX_converges post (2, a1, a2, a3, a4, a5, a6) := by
  refine ⟨3, br_f (by decide) ⟨cc_i0, cc_i0, fun m em => nm_r (e' := (1 : Int32)) (by decide) (br_f (by decide) ⟨cc_i1, cc_i1, fun m' em' => nm_r (e' := (2 : Int32)) (by decide) (br_t (by decide) ⟨3, ?_⟩)⟩)⟩⟩
  have hm : m 0 = 0 := (cc_us em cc_k0).trans h50
  have hm0 : m' 0 = 0 := (cc_un em' cc_k1 (by decide)).trans hm
  have hm1 : m' 1 = 1 := (cc_us em' cc_k1).trans h51
  refine br_f (by decide) ⟨3, cc_40n (y := 1) (by decide) cc_i0 cc_i0 (fun h => h) (by decide) (cc_40n (y := 2) (by decide) cc_i0 cc_i1 (fun _ => h31) (by decide) (br_t (by decide) (nm_r (e' := (1 : Int32)) (by decide) ?_)))⟩
  exact br_f (by decide) (H m' hm0 hm1)
/-- a write, then a read of the beginning -/
theorem cc_conv2A {post : Int32 → St2 → Prop} (h50 : a5 0 = 0) (h51 : a5 1 = 1) (h31 : a3 1 = 0) (h30 : ¬ a3 0 = 0) (h2 : a2 0 = a2 1) (h4 : a4 1 = -1)
    (H : ∀ m, post 0 (2, a1, a2, a3, a4, a5, m)) : wpX_converges post (2, a1, a2, a3, a4, a5, a6) := by
  refine cc_conv2 h50 h51 h31 (fun m _ _ => ⟨1, cc_40s (by decide) cc_i1 cc_i0 h31 h30 h2 (cc_bf 1 h51 (by decide)) (br_f (by decide) ⟨cc_i1, br_f ?_ (H m)⟩)⟩)
  show ¬ (0 : Int32) ≤ a4 1
  rw [h4]; decide
/-- a write, then a read of it -/
theorem cc_conv2B {post : Int32 → St2 → Prop} (h50 : a5 0 = 0) (h51 : a5 1 = 1) (h31 : a3 1 = 0) (h30 : ¬ a3 0 = 0) (h2 : a2 0 = a2 1) (h4 : a4 1 = 0)
    (H : ∀ m, post 1 (2, a1, a2, a3, a4, a5, m)) : wpX_converges post (2, a1, a2, a3, a4, a5, a6) := by
  have hp : (0 : Int32) ≤ a4 1 := by rw [h4]; decide
  refine cc_conv2 h50 h51 h31 (fun m m0 m1 => ⟨3, cc_40s (by decide) cc_i1 cc_i0 h31 h30 h2 (cc_bf 1 h51 (by decide)) (br_f (by decide) ⟨cc_i1, br_t hp (br_f (by decide) ⟨cc_i1, br_t h4.symm (nm_r (e' := (1 : Int32)) (by decide) ?_)⟩)⟩)⟩)
  exact cc_40n (y := 2) (by decide) cc_i1 cc_i1 (fun h => h) (by decide) (br_t (by decide) (nm_r (e' := (2 : Int32)) (by decide) (br_t (by decide) (cc_162_2 m0 m1 (H m)))))
/-- two reads -/
theorem cc_conv2C {post : Int32 → St2 → Prop} (h50 : a5 0 = 0) (h51 : a5 1 = 1) (h31 : a3 1 = 0) (h30 : a3 0 = 0)
    (H : ∀ m, post 1 (2, a1, a2, a3, a4, a5, m)) : wpX_converges post (2, a1, a2, a3, a4, a5, a6) :=
  cc_conv2 h50 h51 h31 (fun m m0 m1 => ⟨3, cc_40n (y := 1) (by decide) cc_i1 cc_i0 (fun _ => h30) (by decide) (cc_40n (y := 2) (by decide) cc_i1 cc_i1 (fun h => h) (by decide) (br_t (by decide) (nm_r (e' := (2 : Int32)) (by decide) (br_t (by decide) (cc_162_2 m0 m1 (H m))))))⟩)
/-! ===== isWeak ===== -/
theorem cc_isWeak {post : Int32 → Prop} (H : post 1) : wpX_isWeak post (1, a1, a2, a3, a4, a5, a6) 0 :=
  ⟨cc_i0, br_c (fun h => ⟨2, br_f (by decide) ⟨cc_i0, br_t h (br_t rfl (nm_r (e' := (1 : Int32)) (by decide) (br_t (by decide) H)))⟩⟩) (fun _ => H)⟩
theorem cc_weak1 {post : Int32 → Prop} (H : post 1) : wpX_weak post (1, a1, a2, a3, a4, a5, a6) 0 := by
  unfold wpX_weak; dsimp only; exact cc_held1 (br_f (by decide) (cc_isWeak (br_f (by decide) H)))
theorem cc_weakN1 {post : Int32 → Prop} {x : Int32} (h : ¬ x = 0) (H : post (-1)) : wpX_weak post (1, a1, a2, a3, a4, a5, a6) x := by
  unfold wpX_weak; dsimp only; exact cc_heldN1 h (br_t rfl H)
theorem cc_weakN0 {post : Int32 → Prop} {x : Int32} (H : post (-1)) : wpX_weak post (0, a1, a2, a3, a4, a5, a6) x := by
  unfold wpX_weak; dsimp only; exact cc_heldN0 (br_t rfl H)
/-! ===== isStrong ===== -/
theorem cc_late61 {post : Int32 → Prop} {J : Int32 → Prop} {x2 x4 : Int32} (h : a6 0 = 0) (H : J 1) : ∃ n, wX_comesTooLate_61 post J 0 x2 0 x4 1 a1 a2 a3 a4 a5 a6 n 0 := by
  have T : wX_comesTooLate_61 post J 0 x2 0 x4 1 a1 a2 a3 a4 a5 a6 1 1 := br_t (by decide) (nm_r (e' := (1 : Int32)) (by decide) H)
  have K : wX_comesTooLate_114 post J (wX_comesTooLate_61 post J 0 x2 0 x4 1 a1 a2 a3 a4 a5 a6 1) 0 x2 0 x4 0 1 a1 a2 a3 a4 a5 a6 :=
    br_c (fun _ => nm_r (e' := (1 : Int32)) (by decide) T) (fun _ => br_t rfl (nm_r (e' := (1 : Int32)) (by decide) T))
  exact ⟨2, br_f (by decide) ⟨cc_i0, br_c (fun _ => K) (fun _ => ⟨cc_i0, cc_i0, br_t rfl ⟨cc_i0, br_t (cc_bt 0 h (by decide)) K⟩⟩)⟩⟩
theorem cc_late {post : Int32 → Prop} (h : a6 0 = 0) (H : post 0) : wpX_comesTooLate post (1, a1, a2, a3, a4, a5, a6) 0 1 := by
  have T : wX_comesTooLate_2 post 0 1 1 a1 a2 a3 a4 a5 a6 1 1 := br_t (by decide) H
  exact ⟨2, br_f (by decide) (br_f (by decide) ⟨cc_i0, br_c (fun _ => ⟨cc_i0, cc_i0, br_t rfl ⟨cc_i0, br_c (fun _ => cc_late61 h T) (fun _ => cc_late61 h T)⟩⟩) (fun _ => cc_late61 h T)⟩)⟩
theorem cc_isStrong {post : Int32 → St2 → Prop} (h4 : a4 0 = -1) (h5 : a5 0 = 0) (H : ∀ m, post 1 (1, a1, a2, a3, a4, a5, m)) : wpX_isStrong post (1, a1, a2, a3, a4, a5, a6) 0 := by
  have hx : (a5 (Int32.toNatClampNeg 0)) ||| ((1 : Int32) <<< ((0 : Int32) &&& 31)) = 1 := by
    rw [cc_k0, h5]; decide
  have hn : a4 (Int32.toNatClampNeg 0) < 0 := by
    rw [cc_k0, h4]; decide
  refine ⟨cc_i0, nm_r hx ⟨2, br_f (by decide) ⟨cc_i0, cc_i0, fun m em => nm_r (e' := (1 : Int32)) (by decide) (br_t (by decide) ⟨2, br_f (by decide) (br_f (by decide) ⟨2, ?_⟩)⟩)⟩⟩⟩
  have hm : m 0 = 0 := (cc_us em cc_k0).trans h5
  have F : wX_isStrong_176 post 0 1 1 a1 a2 a3 a4 a5 m := cc_ring1 hm (br_t rfl (cc_late hm (br_t rfl (H m))))
  have U : wX_isStrong_44 post 0 1 1 0 1 1 a1 a2 a3 a4 a5 m := br_f (by decide) (br_t rfl F)
  have T : wX_isStrong_60 post (wX_isStrong_44 post 0 1 1) 0 1 0 1 0 1 1 a1 a2 a3 a4 a5 m :=
    br_t (by decide) (cc_close1 hm (br_t rfl (br_t rfl (nm_r (e' := (1 : Int32)) (by decide) U))))
  exact br_f (by decide) (br_f (by decide) ⟨cc_i0, br_c (fun _ => ⟨cc_i0, cc_i0, br_t rfl (br_f (by decide) ⟨cc_i0, br_t hn (nm_r (e' := (1 : Int32)) (by decide) T)⟩)⟩) (fun _ => br_t rfl (nm_r (e' := (1 : Int32)) (by decide) T))⟩)
theorem cc_strong1 {post : Int32 → St2 → Prop} (h4 : a4 0 = -1) (h5 : a5 0 = 0) (H : ∀ m, post 1 (1, a1, a2, a3, a4, a5, m)) : wpX_strong post (1, a1, a2, a3, a4, a5, a6) 0 := by
  unfold wpX_strong; dsimp only; exact cc_held1 (br_f (by decide) (cc_isStrong h4 h5 (fun m => br_f (by decide) (H m))))
theorem cc_strongN0 {post : Int32 → St2 → Prop} {x : Int32} (H : post (-1) (0, a1, a2, a3, a4, a5, a6)) : wpX_strong post (0, a1, a2, a3, a4, a5, a6) x := by
  unfold wpX_strong; dsimp only; exact cc_heldN0 (br_t rfl H)
/-! ===== sound, before, back ===== -/
theorem cc_sound0 {post : Int32 → St2 → Prop} (H : ∀ r, r = 7 → post r (0, a1, a2, a3, a4, a5, a6)) : wpX_sound post (0, a1, a2, a3, a4, a5, a6) :=
  ⟨1, br_t (by decide) (cc_conv0 (br_f (by decide) (H _ (by decide))))⟩
theorem cc_sound1 {post : Int32 → St2 → Prop} (h4 : a4 0 = -1) (h5 : a5 0 = 0) (H : ∀ r m, r = 7 → post r (1, a1, a2, a3, a4, a5, m)) : wpX_sound post (1, a1, a2, a3, a4, a5, a6) :=
  ⟨2, br_f (by decide) (cc_isWeak (br_f (by decide) (cc_isStrong h4 h5 (fun m => br_f (by decide) (nm_r (e' := (1 : Int32)) (by decide) (br_t (by decide) (cc_conv1 h5 (fun m' => br_f (by decide) (H _ m' (by decide))))))))))⟩
theorem cc_before1 {post : Int32 → Prop} (h5 : a5 0 = 0) (H : post 0) : wpX_before post (1, a1, a2, a3, a4, a5, a6) 0 0 := by
  unfold wpX_before; dsimp only
  refine cc_held1 (br_f (by decide) (cc_held1 (br_f (by decide) ⟨cc_i0, ?_⟩)))
  rw [cc_k0, h5]
  exact H
theorem cc_beforeN1 {post : Int32 → Prop} {x : Int32} (h : ¬ x = 0) (H : post (-1)) : wpX_before post (1, a1, a2, a3, a4, a5, a6) 0 x := by
  unfold wpX_before; dsimp only; exact cc_held1 (br_f (by decide) (cc_heldN1 h (br_t rfl H)))
theorem cc_beforeN0 {post : Int32 → Prop} {x y : Int32} (H : post (-1)) : wpX_before post (0, a1, a2, a3, a4, a5, a6) x y := by
  unfold wpX_before; dsimp only; exact cc_heldN0 (br_t rfl H)
theorem cc_back0 {post : Int32 → St2 → Prop} (H : post (-1) (0, a1, a2, a3, a4, a5, a6)) : wpX_back post (0, a1, a2, a3, a4, a5, a6) :=
  br_t rfl H
theorem cc_back1 {post : Int32 → St2 → Prop} (H : post 0 (0, a1, a2, a3, a4, a5, a6)) : wpX_back post (1, a1, a2, a3, a4, a5, a6) :=
  br_f (by decide) (nm_r (e' := (0 : Int32)) (by decide) H)
end
end
section
/-- user and cell are places -/
def cc_P (p q : Int32) : Prop := ¬ p < 0 ∧ ¬ 2 < p ∧ ¬ q < 0 ∧ ¬ 1 < q
section
variable {a1 a2 a3 a4 a5 a6 : Nat → Int32} {p q : Int32}
/-! ===== write and read, at no operation ===== -/
theorem cc_writeN {post : Int32 → St2 → Prop} (hp : ¬ cc_P p q) (H : post (-1) (0, a1, a2, a3, a4, a5, a6)) : wpX_write post (0, a1, a2, a3, a4, a5, a6) p q :=
  br_c (fun _ => H) (fun h1 => br_c (fun _ => H) (fun h2 => br_c (fun _ => H) (fun h3 => br_c (fun _ => H) (fun h4 => absurd ⟨h1, h2, h3, h4⟩ hp))))
theorem cc_writeY {post : Int32 → St2 → Prop} (hp : cc_P p q)
    (H : ∀ (r : Int32) (b1 b2 b3 b4 b5 : Nat → Int32), r = 0 → b1 0 = p → b2 0 = q → b3 0 = 1 → b4 0 = -1 → b5 0 = 0 → post r (1, b1, b2, b3, b4, b5, a6)) : wpX_write post (0, a1, a2, a3, a4, a5, a6) p q :=
  br_f hp.1 (br_f hp.2.1 (br_f hp.2.2.1 (br_f hp.2.2.2 (br_t (by decide) (cc_ent0 (by decide) (fun b1 b2 b3 b4 b5 h1 h2 h3 h4 h5 => H _ b1 b2 b3 b4 b5 (by decide) h1 h2 h3 h4 h5))))))
theorem cc_readN {post : Int32 → St2 → Prop} {s : Int32} (hp : ¬ (cc_P p q ∧ s = -1)) (H : post (-1) (0, a1, a2, a3, a4, a5, a6)) : wpX_read post (0, a1, a2, a3, a4, a5, a6) p q s :=
  br_c (fun _ => H) (fun h1 => br_c (fun _ => H) (fun h2 => br_c (fun _ => H) (fun h3 => br_c (fun _ => H) (fun h4 => br_f (by decide) (cc_src0 (fun z => hp ⟨⟨h1, h2, h3, h4⟩, z⟩) (br_t rfl H))))))
theorem cc_readY {post : Int32 → St2 → Prop} (hp : cc_P p q)
    (H : ∀ (r : Int32) (b1 b2 b3 b4 b5 : Nat → Int32), r = 0 → b1 0 = p → b2 0 = q → b3 0 = 0 → b4 0 = -1 → b5 0 = 0 → post r (1, b1, b2, b3, b4, b5, a6)) : wpX_read post (0, a1, a2, a3, a4, a5, a6) p q (-1) :=
  br_f hp.1 (br_f hp.2.1 (br_f hp.2.2.1 (br_f hp.2.2.2 (br_f (by decide) (cc_srcM (br_f (by decide) (cc_ent0 (by decide) (fun b1 b2 b3 b4 b5 h1 h2 h3 h4 h5 => H _ b1 b2 b3 b4 b5 (by decide) h1 h2 h3 h4 h5))))))))
/-! ===== choices ===== -/
theorem cc_choN {post : Int32 → St2 → Prop} {c : Int32} (hp : ¬ cc_P p q) (H : post (-1) (c, a1, a2, a3, a4, a5, a6)) : wpX_choices post (c, a1, a2, a3, a4, a5, a6) p q :=
  br_c (fun _ => H) (fun h1 => br_c (fun _ => H) (fun h2 => br_c (fun _ => H) (fun h3 => br_c (fun h4 => absurd ⟨h1, h2, h3, Int32.not_lt.mpr h4⟩ hp) (fun _ => H))))
theorem cc_cho0 {post : Int32 → St2 → Prop} (hp : cc_P p q) (H : ∀ b1 b2 b3 b4 b5 m, post 128 (0, b1, b2, b3, b4, b5, m)) : wpX_choices post (0, a1, a2, a3, a4, a5, a6) p q := by
  refine br_f hp.1 (br_f hp.2.1 (br_f hp.2.2.1 (br_t (Int32.not_lt.mp hp.2.2.2) ⟨2, ?_⟩)))
  refine br_f (by decide) (cc_srcM (br_f (by decide) (cc_ent0 (by decide) (fun b1 b2 b3 b4 b5 _ _ _ _ h5 => cc_conv1 h5 (fun m => nm_r (e' := (0 : Int32)) (by decide) ?_)))))
  exact br_f (by decide) (br_f (by decide) (nm_r (e' := (128 : Int32)) (by decide) (nm_r (e' := (0 : Int32)) (by decide) (br_t (by decide) (H b1 b2 b3 b4 b5 m)))))
theorem cc_choW {post : Int32 → St2 → Prop} (hp : cc_P p q) (h1 : a1 0 = p) (h2 : a2 0 = q) (h3 : a3 0 = 1) (h5 : a5 0 = 0) (H : ∀ b1 b2 b3 b4 b5 m, post 1 (1, b1, b2, b3, b4, b5, m)) : wpX_choices post (1, a1, a2, a3, a4, a5, a6) p q := by
  refine br_f hp.1 (br_f hp.2.1 (br_f hp.2.2.1 (br_t (Int32.not_lt.mp hp.2.2.2) ⟨3, ?_⟩)))
  refine br_f (by decide) (cc_srcM (br_f (by decide) (cc_ent1 h1 h5 (fun b1 b2 b3 b4 b5 g1 g2 g3 g4 g5 k2 k3 k4 k5 => ?_))))
  have n3 : ¬ b3 0 = 0 := by rw [g3, h3]; decide
  refine cc_conv2A g5 k5 k3 n3 (by rw [g2, h2, k2]) k4 (fun m => nm_r (e' := (1 : Int32)) (by decide) (br_t rfl (nm_r (e' := (0 : Int32)) (by decide) (nm_r (e' := (0 : Int32)) (by decide) ?_))))
  refine br_f (by decide) (cc_srcW n3 (g2.trans h2) (br_f (by decide) (cc_ent1 (g1.trans h1) g5 (fun d1 d2 d3 d4 d5 r1 r2 r3 r4 r5 s2 s3 s4 s5 => ?_))))
  have m3 : ¬ d3 0 = 0 := by rw [r3]; exact n3
  refine cc_conv2B r5 s5 s3 m3 (by rw [r2, g2, h2, s2]) s4 (fun m => nm_r (e' := (1 : Int32)) (by decide) ?_)
  exact br_f (by decide) (br_t (by decide) (nm_r (e' := (1 : Int32)) (by decide) (nm_r (e' := (1 : Int32)) (by decide) (br_t (by decide) (H d1 d2 d3 d4 d5 m)))))
theorem cc_choR {post : Int32 → St2 → Prop} (hp : cc_P p q) (h1 : a1 0 = p) (h3 : a3 0 = 0) (h5 : a5 0 = 0) (H : ∀ b1 b2 b3 b4 b5 m, post 128 (1, b1, b2, b3, b4, b5, m)) : wpX_choices post (1, a1, a2, a3, a4, a5, a6) p q := by
  refine br_f hp.1 (br_f hp.2.1 (br_f hp.2.2.1 (br_t (Int32.not_lt.mp hp.2.2.2) ⟨3, ?_⟩)))
  refine br_f (by decide) (cc_srcM (br_f (by decide) (cc_ent1 h1 h5 (fun b1 b2 b3 b4 b5 g1 g2 g3 g4 g5 k2 k3 k4 k5 => ?_))))
  refine cc_conv2C g5 k5 k3 (g3.trans h3) (fun m => nm_r (e' := (1 : Int32)) (by decide) (br_f (by decide) (br_f (by decide) (nm_r (e' := (128 : Int32)) (by decide) (nm_r (e' := (0 : Int32)) (by decide) ?_)))))
  exact br_f (by decide) (cc_srcR (g3.trans h3) (br_t rfl (nm_r (e' := (1 : Int32)) (by decide) (br_t (by decide) (H b1 b2 b3 b4 b5 m)))))
end
end
section
section
variable {post : Int32 → St0 → Prop} {mc ms kc ks : Nat} {p q s x : Int32} {a1 a2 a3 a4 a5 a6 : Nat → Int32}
/-- nothing was entered: what the law asks before choices -/
theorem cc_no {x6 x7 : Int32} (H : wL_lawOf_184 post mc ms p q x6 x7 0 (-1) (-1) kc ks 0 a1 a2 a3 a4 a5 a6) : wL_lawOf_92 post mc ms p q x x6 x7 0 (-1) kc ks 0 a1 a2 a3 a4 a5 a6 := by
  refine br_t rfl (br_t rfl (cc_weakN0 (br_t rfl (br_t rfl (cc_strongN0 (br_t rfl (br_t rfl (cc_sound0 (fun r hr => br_t hr (cc_beforeN0 (br_t rfl ?_)))))))))))
  exact H
/-- no place -/
theorem cc_A {x7 : Int32} (hp : ¬ cc_P p q) (H : post 1 ()) : wL_lawOf_92 post mc ms p q x 0 x7 0 (-1) kc ks 0 a1 a2 a3 a4 a5 a6 :=
  cc_no (br_t rfl (br_t rfl (cc_choN hp (br_t rfl (cc_back0 (br_t rfl (br_t rfl H)))))))
theorem cc_B215 (hp : cc_P p q) (H : post 1 ()) : wL_lawOf_215 post mc ms p q 0 128 kc ks 0 a1 a2 a3 a4 a5 a6 :=
  cc_cho0 hp (fun b1 b2 b3 b4 b5 m => br_t rfl (cc_back0 (br_t rfl (br_t rfl H))))
/-- a place, a read of a source that isn't there -/
theorem cc_B (hp : cc_P p q) (H : post 1 ()) : wL_lawOf_92 post mc ms p q x 1 0 0 (-1) kc ks 0 a1 a2 a3 a4 a5 a6 :=
  cc_no (br_t rfl (br_f (by decide) (br_t rfl (cc_B215 hp H))))
/-- one operation was entered: what the law asks before choices -/
theorem cc_yes {x7 : Int32} (h4 : a4 0 = -1) (h5 : a5 0 = 0) (H : ∀ m z, wL_lawOf_184 post mc ms p q 1 x7 1 z z kc ks 1 a1 a2 a3 a4 a5 m) : wL_lawOf_92 post mc ms p q x 1 x7 1 0 kc ks 1 a1 a2 a3 a4 a5 a6 := by
  have B : ∀ m, wL_lawOf_148 post mc ms p q x 1 x7 1 1 1 kc ks 1 a1 a2 a3 a4 a5 m := by
    intro m
    refine br_t rfl (cc_sound1 h4 h5 (fun r m' hr => br_t hr ?_))
    by_cases hx : x = 0
    · subst hx
      exact cc_before1 h5 (br_f (by decide) (br_t rfl (H m' 0)))
    · exact cc_beforeN1 hx (br_f (by decide) (br_f hx (H m' (-1))))
  have S : ∀ z, wL_lawOf_129 post mc ms p q x 1 x7 1 z z kc ks 1 a1 a2 a3 a4 a5 a6 :=
    fun z => br_t rfl (cc_strong1 h4 h5 (fun m => br_f (by decide) (B m)))
  refine br_f (by decide) (br_t rfl ?_)
  by_cases hx : x = 0
  · have S' := S 1
    subst hx
    exact cc_weak1 (br_f (by decide) (br_t rfl S'))
  · exact cc_weakN1 hx (br_f (by decide) (br_f hx (S (-1))))
/-- a place, a write -/
theorem cc_C (hp : cc_P p q) (h1 : a1 0 = p) (h2 : a2 0 = q) (h3 : a3 0 = 1) (h4 : a4 0 = -1) (h5 : a5 0 = 0) (H : post 1 ()) : wL_lawOf_92 post mc ms p q x 1 1 1 0 kc ks 1 a1 a2 a3 a4 a5 a6 :=
  cc_yes h4 h5 (fun m z => br_t rfl (br_f (by decide) (br_f (by decide) (br_f (by decide) (cc_choW hp h1 h2 h3 h5 (fun b1 b2 b3 b4 b5 m' => br_t rfl (cc_back1 (br_f (by decide) (br_t rfl H)))))))))
theorem cc_D215 (hp : cc_P p q) (h1 : a1 0 = p) (h3 : a3 0 = 0) (h5 : a5 0 = 0) (H : post 1 ()) : wL_lawOf_215 post mc ms p q 1 128 kc ks 1 a1 a2 a3 a4 a5 a6 :=
  cc_choR hp h1 h3 h5 (fun b1 b2 b3 b4 b5 m' => br_t rfl (cc_back1 (br_f (by decide) (br_t rfl H))))
/-- a place, a read of the beginning -/
theorem cc_D (hp : cc_P p q) (h1 : a1 0 = p) (h3 : a3 0 = 0) (h4 : a4 0 = -1) (h5 : a5 0 = 0) (H : post 1 ()) : wL_lawOf_92 post mc ms p q x 1 0 1 0 kc ks 1 a1 a2 a3 a4 a5 a6 :=
  cc_yes h4 h5 (fun m z => br_t rfl (br_f (by decide) (br_f (by decide) (br_t rfl (cc_D215 hp h1 h3 h5 H)))))
/-- the law behind its first flag, no place -/
theorem cc_32N {y : Int32} (hp : ¬ cc_P p q) (H : post 1 ()) : wL_lawOf_32 post mc ms p q s y x 0 kc ks 0 a1 a2 a3 a4 a5 a6 := by
  refine br_c (fun _ => br_t rfl ?_) (fun _ => br_t rfl ?_)
  · exact br_f (by decide) (cc_writeN hp (cc_A hp H))
  · exact br_t rfl (cc_readN (fun z => hp z.1) (cc_A hp H))
/-- the law behind its first flag, a place -/
theorem cc_32Y {y : Int32} (hp : cc_P p q) (H : post 1 ()) : wL_lawOf_32 post mc ms p q s y x 1 kc ks 0 a1 a2 a3 a4 a5 a6 := by
  refine br_c (fun _ => br_f (by decide) (br_f (by decide) ?_)) (fun _ => br_f (by decide) (br_t rfl (br_c (fun hs => ?_) (fun hs => ?_))))
  · refine br_f (by decide) (cc_writeY hp (fun r b1 b2 b3 b4 b5 hr h1 h2 h3 h4 h5 => ?_))
    subst hr
    exact cc_C hp h1 h2 h3 h4 h5 H
  · subst hs
    refine br_t rfl (cc_readY hp (fun r b1 b2 b3 b4 b5 hr h1 h2 h3 h4 h5 => ?_))
    subst hr
    exact cc_D hp h1 h3 h4 h5 H
  · exact br_t rfl (cc_readN (fun z => hs z.2) (cc_B hp H))
end
theorem cc_lawOf {post : Int32 → St0 → Prop} {p q s y x : Int32} (H : post 1 ()) : wpL_lawOf post 7 55 () p q s y x := by
  refine ⟨by decide, by decide, 6, 48, by decide, by decide, ?_⟩
  refine ⟨by decide, by decide, by decide, by decide, by decide, by decide, by decide, by decide, by decide, by decide, by decide, by decide, ?_⟩
  refine br_c (fun h => cc_32N (fun z => z.1 h) H) (fun h1 => br_c (fun h => cc_32N (fun z => z.2.1 h) H) (fun h2 => br_c (fun h => cc_32N (fun z => z.2.2.1 h) H) (fun h3 => br_c (fun h => cc_32N (fun z => z.2.2.2 h) H) (fun h4 => ?_))))
  exact cc_32Y ⟨h1, h2, h3, h4⟩ H
theorem cc_cell {post : Int32 → Prop} {L : Nat} {xs : Nat → Int32} {i : Int32} (k : Nat) (hk : k < 5) (hL : L ≤ 5) (hi : i = nI k) (H : ∀ v, post v) : wpL_cellAt post L xs () i :=
  pk_le L k (fun _ => H _) (fun h => ⟨pk_in k L h hi, H _⟩) rfl hi
theorem i_vc (xs : Nat → Int32) (L : Nat) (hL : L ≤ 5) : wpL_law (fun r => r = 1) L xs := by
  refine cc_cell 0 (by decide) hL rfl (fun v0 => cc_cell 1 (by decide) hL rfl (fun v1 => cc_cell 2 (by decide) hL rfl (fun v2 => cc_cell 3 (by decide) hL rfl (fun v3 => cc_cell 4 (by decide) hL rfl (fun v4 => ⟨7, 55, by decide, by decide, ?_⟩)))))
  exact cc_lawOf rfl
end

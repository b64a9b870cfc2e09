section
/-! one step of each method of the class, over any state -/
section
variable {d s n : Int32} {a1 a2 a3 a4 a5 a6 a7 : Nat → Int32}
theorem ft_in {x : Int32} {m : Nat} (h : 0 ≤ x.toInt ∧ x.toInt < m) : vp_in x m := vp_in_iff.mpr h
theorem ft_ne {c : Int32} (h : ¬ c ≤ 0) : ¬ c = 0 := fun e => h (by rw [e]; decide)
theorem ft_m1 {f : Int32} (h : ¬ f < 0) : ¬ (-1 : Int32) = f := fun e => h (by rw [← e]; decide)
/-- call: the depth d < 8, the function in 0..7 -/
theorem ft_call {post : Int32 → St2 → Prop} {f : Int32} (k : Nat) (d' : Int32) (hk : d.toNatClampNeg = k) (hd' : d + 1 = d') (h0 : ¬ f < 0) (h7 : ¬ 7 < f) (hd : d < 8) (hi : vp_in d 8)
    (hp : post d' (d', s, n, upd a1 k f, a2, a3, a4, a5, a6, a7)) : wpX_call post (d, s, n, a1, a2, a3, a4, a5, a6, a7) f := by
  unfold wpX_call
  dsimp only
  unfold wpX_isFunction
  subst hk
  exact br_f h0 (br_f h7 (br_f (by decide) (br_t hd ⟨hi, nm_e (nm_r hd' hp)⟩)))
theorem ft_leave {post : Int32 → St2 → Prop} (k : Nat) (d' : Int32) (hd' : d - 1 = d') (hk : d'.toNatClampNeg = k) (hd : ¬ d = 0) (hi : vp_in d' 8)
    (hp : post (a1 k) (d', s, n, a1, a2, a3, a4, a5, a6, a7)) : wpX_leave post (d, s, n, a1, a2, a3, a4, a5, a6, a7) := by
  unfold wpX_leave
  subst hk
  exact br_f hd (nm_r hd' ⟨hi, hp⟩)
theorem ft_cw0 {post : Int32 → Prop} {p f : Int32} (hp : vp_in p 321) (h : a4 p.toNatClampNeg = 0) (k : post 0) : wpX_childWith post (d, s, n, a1, a2, a3, a4, a5, a6, a7) p f := by
  unfold wpX_childWith
  exact ⟨hp, nm_r h ⟨1, br_t (by decide) k⟩⟩
theorem ft_cw1 {post : Int32 → Prop} {p f c : Int32} (hp : vp_in p 321) (h : a4 p.toNatClampNeg = c) (hc : ¬ c ≤ 0) (hi : vp_in c 321) (h2 : a2 c.toNatClampNeg = f) (k : post c) : wpX_childWith post (d, s, n, a1, a2, a3, a4, a5, a6, a7) p f := by
  unfold wpX_childWith
  exact ⟨hp, nm_r h ⟨1, br_f hc ⟨hi, br_t h2 k⟩⟩⟩
theorem ft_cwm {post : Int32 → Prop} {p f c : Int32} (hp : vp_in p 321) (h : a4 p.toNatClampNeg = c) (hc : ¬ c ≤ 0) (hi : vp_in c 321) (h2 : ¬ a2 c.toNatClampNeg = f) (h5 : a5 c.toNatClampNeg = 0) (k : post 0) : wpX_childWith post (d, s, n, a1, a2, a3, a4, a5, a6, a7) p f := by
  unfold wpX_childWith
  exact ⟨hp, nm_r h ⟨2, br_f hc ⟨hi, br_f h2 ⟨hi, nm_r h5 (br_t (by decide) k)⟩⟩⟩⟩
theorem ft_add {post : Int32 → St2 → Prop} {p f : Int32} (hn : vp_in n 321) (hp : vp_in p 321)
    (k : post n (d, s, n + 1, a1, upd a2 n.toNatClampNeg f, upd a3 n.toNatClampNeg p, upd a4 p.toNatClampNeg n, upd a5 n.toNatClampNeg (a4 p.toNatClampNeg), a6, a7)) : wpX_addChild post (d, s, n, a1, a2, a3, a4, a5, a6, a7) p f := by
  unfold wpX_addChild
  exact nm_e ⟨hn, nm_e ⟨hn, nm_e ⟨hp, hn, nm_e ⟨hp, nm_e k⟩⟩⟩⟩
/-! the loop of sample -/
theorem ft_s_end {post : Int32 → St2 → Prop} {w x2 x3 : Int32} {m : Nat} (h : d ≤ x3) (hi : vp_in x2 321)
    (k : post (s + 1) (d, s + 1, n, a1, a2, a3, a4, a5, upd a6 x2.toNatClampNeg (a6 x2.toNatClampNeg + w), a7)) : wX_sample_36 post w (m + 1) x2 x3 d s n a1 a2 a3 a4 a5 a6 a7 :=
  br_t h ⟨hi, hi, nm_e (nm_e k)⟩
theorem ft_s_old {post : Int32 → St2 → Prop} {w x2 x3 c : Int32} {m : Nat} (h : ¬ d ≤ x3) (hi : vp_in x3 8) (hx : vp_in x2 321) (h4 : a4 x2.toNatClampNeg = c) (hc : ¬ c ≤ 0) (hci : vp_in c 321) (h2 : a2 c.toNatClampNeg = a1 x3.toNatClampNeg)
    (k : wX_sample_36 post w m c (x3 + 1) d s n a1 a2 a3 a4 a5 a6 (upd a7 c.toNatClampNeg (a7 c.toNatClampNeg + w))) : wX_sample_36 post w (m + 1) x2 x3 d s n a1 a2 a3 a4 a5 a6 a7 :=
  br_f h ⟨hi, ft_cw1 hx h4 hc hci h2 (br_f (ft_ne hc) ⟨hci, hci, nm_e (nm_e k)⟩)⟩
theorem ft_s_new {post : Int32 → St2 → Prop} {w x2 x3 : Int32} {m : Nat} (h : ¬ d ≤ x3) (hi : vp_in x3 8) (hx : vp_in x2 321) (hn : vp_in n 321)
    (hw : ∀ q : Int32 → Prop, q 0 → wpX_childWith q (d, s, n, a1, a2, a3, a4, a5, a6, a7) x2 (a1 x3.toNatClampNeg))
    (k : wX_sample_36 post w m n (x3 + 1) d s (n + 1) a1 (upd a2 n.toNatClampNeg (a1 x3.toNatClampNeg)) (upd a3 n.toNatClampNeg x2) (upd a4 x2.toNatClampNeg n) (upd a5 n.toNatClampNeg (a4 x2.toNatClampNeg)) a6 (upd a7 n.toNatClampNeg (a7 n.toNatClampNeg + w))) : wX_sample_36 post w (m + 1) x2 x3 d s n a1 a2 a3 a4 a5 a6 a7 :=
  br_f h ⟨hi, hw _ (br_t rfl ⟨hi, ft_add hn hx ⟨hn, hn, nm_e (nm_e k)⟩⟩)⟩
theorem ft_sample {post : Int32 → St2 → Prop} {w : Int32} (m : Nat) (h1 : ¬ w < 1) (h2 : ¬ 100 < w) (hs : s < 40) (k : wX_sample_36 post w m 0 0 d s n a1 a2 a3 a4 a5 a6 (upd a7 0 (a7 0 + w))) : wpX_sample post (d, s, n, a1, a2, a3, a4, a5, a6, a7) w := by
  unfold wpX_sample
  exact br_f h1 (br_f h2 (br_t hs (nm_e ⟨m, k⟩)))
/-! the node of a stack of one, of two functions -/
theorem ft_ns1 {post : Int32 → Prop} (h4 : a4 0 = 1) (h2 : a2 1 = a1 0) (k : post 1) : wpX_nodeOfStack post (1, s, n, a1, a2, a3, a4, a5, a6, a7) := by
  unfold wpX_nodeOfStack
  exact ⟨2, br_f (by decide) ⟨ft_in (by decide), ft_cw1 (c := 1) (ft_in (by decide)) h4 (by decide) (ft_in (by decide)) h2 (br_f (by decide) (nm_r (e' := 1) (by decide) (br_t (by decide) k)))⟩⟩
theorem ft_ns2 {post : Int32 → Prop} {c : Int32} (h4 : a4 0 = 1) (h2 : a2 1 = a1 0) (h41 : a4 1 = c) (hc : ¬ c ≤ 0) (hi : vp_in c 321) (h2c : a2 c.toNatClampNeg = a1 1) (k : post c) : wpX_nodeOfStack post (2, s, n, a1, a2, a3, a4, a5, a6, a7) := by
  unfold wpX_nodeOfStack
  exact ⟨3, br_f (by decide) ⟨ft_in (by decide), ft_cw1 (c := 1) (ft_in (by decide)) h4 (by decide) (ft_in (by decide)) h2 (br_f (by decide) (nm_r (e' := 1) (by decide) (br_f (by decide) ⟨ft_in (by decide), ft_cw1 (c := c) (ft_in (by decide)) h41 hc hi h2c (br_f (ft_ne hc) (nm_r (e' := 2) (by decide) (br_t (by decide) k)))⟩)))⟩⟩
theorem ft_total1 {post : Int32 → Prop} (h4 : a4 0 = 1) (h2 : a2 1 = a1 0) (k : post (a7 1)) : wpX_total post (1, s, n, a1, a2, a3, a4, a5, a6, a7) := by
  unfold wpX_total
  exact ft_ns1 h4 h2 (br_t (by decide) ⟨ft_in (by decide), k⟩)
theorem ft_own1 {post : Int32 → Prop} (h4 : a4 0 = 1) (h2 : a2 1 = a1 0) (k : post (a6 1)) : wpX_own post (1, s, n, a1, a2, a3, a4, a5, a6, a7) := by
  unfold wpX_own
  exact ft_ns1 h4 h2 (br_t (by decide) ⟨ft_in (by decide), k⟩)
theorem ft_total2 {post : Int32 → Prop} {c : Int32} (h4 : a4 0 = 1) (h2 : a2 1 = a1 0) (h41 : a4 1 = c) (hc : ¬ c ≤ 0) (hc0 : 0 ≤ c) (hi : vp_in c 321) (h2c : a2 c.toNatClampNeg = a1 1) (k : post (a7 c.toNatClampNeg)) : wpX_total post (2, s, n, a1, a2, a3, a4, a5, a6, a7) := by
  unfold wpX_total
  exact ft_ns2 h4 h2 h41 hc hi h2c (br_t hc0 ⟨hi, k⟩)
/-! hottest -/
theorem ft_h_end {post : Int32 → Prop} {m : Nat} {c : Int32} (hc : ¬ c = 0) (hi : vp_in c 321) (k : post (a2 c.toNatClampNeg)) : wX_hottest_29 post d s n a1 a2 a3 a4 a5 a6 a7 (m + 1) c 0 :=
  br_t (by decide) (br_f hc ⟨hi, k⟩)
theorem ft_h_78 {post : Int32 → Prop} {J : Int32 → Int32 → Prop} {x2 x3 e : Int32} (hi : vp_in x3 321) (h5 : a5 x3.toNatClampNeg = e) (k : J x3 e) : wX_hottest_78 post J x2 x3 d s n a1 a2 a3 a4 a5 a6 a7 := by
  have h9 : wX_hottest_94 post J x3 d s n a1 a2 a3 a4 a5 a6 a7 := ⟨hi, nm_r h5 k⟩
  exact br_c (fun _ => h9) (fun _ => br_f (by decide) h9)
theorem ft_h_82 {post : Int32 → Prop} {J : Int32 → Int32 → Prop} {x2 x3 e : Int32} (hx : ¬ x2 = 0) (hi : vp_in x3 321) (h5 : a5 x3.toNatClampNeg = e) (k : J x2 e) : wX_hottest_82 post J x2 x3 d s n a1 a2 a3 a4 a5 a6 a7 :=
  br_f hx (br_t rfl ⟨hi, nm_r h5 k⟩)
theorem ft_h_first {post : Int32 → Prop} {m : Nat} {c e : Int32} (hc : ¬ c ≤ 0) (hi : vp_in c 321) (h5 : a5 c.toNatClampNeg = e) (k : wX_hottest_29 post d s n a1 a2 a3 a4 a5 a6 a7 m c e) : wX_hottest_29 post d s n a1 a2 a3 a4 a5 a6 a7 (m + 1) 0 c := by
  have h0 : vp_in 0 321 := ft_in (by decide)
  have hA : wX_hottest_78 post (wX_hottest_29 post d s n a1 a2 a3 a4 a5 a6 a7 m) 0 c d s n a1 a2 a3 a4 a5 a6 a7 := ft_h_78 hi h5 k
  have hB : wX_hottest_82 post (wX_hottest_29 post d s n a1 a2 a3 a4 a5 a6 a7 m) 0 c d s n a1 a2 a3 a4 a5 a6 a7 := br_t rfl ⟨hi, nm_r h5 k⟩
  exact br_f hc ⟨hi, h0, br_c (fun _ => hA) (fun _ => ⟨hi, h0, br_c (fun _ => ⟨hi, h0, br_c (fun _ => hB) (fun _ => hA)⟩) (fun _ => hB)⟩)⟩
theorem ft_h_next {post : Int32 → Prop} {m : Nat} {b c e : Int32} (hb : ¬ b = 0) (hbi : vp_in b 321) (hc : ¬ c ≤ 0) (hi : vp_in c 321) (h5 : a5 c.toNatClampNeg = e)
    (k1 : a7 b.toNatClampNeg < a7 c.toNatClampNeg → wX_hottest_29 post d s n a1 a2 a3 a4 a5 a6 a7 m c e)
    (k2 : ¬ a7 b.toNatClampNeg < a7 c.toNatClampNeg → a7 c.toNatClampNeg = a7 b.toNatClampNeg → a2 b.toNatClampNeg ≤ a2 c.toNatClampNeg → wX_hottest_29 post d s n a1 a2 a3 a4 a5 a6 a7 m b e)
    (k3 : ¬ a7 b.toNatClampNeg < a7 c.toNatClampNeg → a7 c.toNatClampNeg = a7 b.toNatClampNeg → ¬ a2 b.toNatClampNeg ≤ a2 c.toNatClampNeg → wX_hottest_29 post d s n a1 a2 a3 a4 a5 a6 a7 m c e)
    (k4 : ¬ a7 b.toNatClampNeg < a7 c.toNatClampNeg → ¬ a7 c.toNatClampNeg = a7 b.toNatClampNeg → wX_hottest_29 post d s n a1 a2 a3 a4 a5 a6 a7 m b e) : wX_hottest_29 post d s n a1 a2 a3 a4 a5 a6 a7 (m + 1) b c :=
  br_f hc ⟨hi, hbi, br_c (fun z => ft_h_78 hi h5 (k1 z)) (fun z => ⟨hi, hbi, br_c (fun y => ⟨hi, hbi, br_c (fun x => ft_h_82 hb hi h5 (k2 z y x)) (fun x => ft_h_78 hi h5 (k3 z y x))⟩) (fun y => ft_h_82 hb hi h5 (k4 z y))⟩)⟩
theorem ft_hot {post : Int32 → Prop} {c : Int32} (m : Nat) (h4 : a4 0 = 1) (h2 : a2 1 = a1 0) (h41 : a4 1 = c) (k : wX_hottest_29 post 1 s n a1 a2 a3 a4 a5 a6 a7 m 0 c) : wpX_hottest post (1, s, n, a1, a2, a3, a4, a5, a6, a7) := by
  unfold wpX_hottest
  exact ft_ns1 h4 h2 (br_f (by decide) (br_f (by decide) ⟨ft_in (by decide), nm_r h41 ⟨m, k⟩⟩))
/-! paths -/
theorem ft_p_hit {post : Int32 → Prop} {w c i : Int32} {m : Nat} (c' i' : Int32) (hc : c + 1 = c') (hi' : i + 1 = i') (h : ¬ n ≤ i) (hi : vp_in i 321) (h7 : ¬ a7 i.toNatClampNeg < w) (k : wX_paths_16 post w d s n a1 a2 a3 a4 a5 a6 a7 m c' i') : wX_paths_16 post w d s n a1 a2 a3 a4 a5 a6 a7 (m + 1) c i :=
  br_f h ⟨hi, br_f h7 (nm_r hc (nm_r hi' k))⟩
theorem ft_p_miss {post : Int32 → Prop} {w c i : Int32} {m : Nat} (c' i' : Int32) (hc : c + 0 = c') (hi' : i + 1 = i') (h : ¬ n ≤ i) (hi : vp_in i 321) (h7 : a7 i.toNatClampNeg < w) (k : wX_paths_16 post w d s n a1 a2 a3 a4 a5 a6 a7 m c' i') : wX_paths_16 post w d s n a1 a2 a3 a4 a5 a6 a7 (m + 1) c i :=
  br_f h ⟨hi, br_t h7 (nm_r hc (nm_r hi' k))⟩
theorem ft_p_end {post : Int32 → Prop} {w c i : Int32} {m : Nat} (h : n ≤ i) (k : post c) : wX_paths_16 post w d s n a1 a2 a3 a4 a5 a6 a7 (m + 1) c i := br_t h k
theorem ft_paths {post : Int32 → Prop} {w : Int32} (m : Nat) (h : 1 ≤ w) (k : wX_paths_16 post w d s n a1 a2 a3 a4 a5 a6 a7 m 0 1) : wpX_paths post (d, s, n, a1, a2, a3, a4, a5, a6, a7) w := by
  unfold wpX_paths
  exact br_t h ⟨m, k⟩
/-! edge -/
theorem ft_e_end {post : Int32 → Prop} {x y c i : Int32} {m : Nat} (h : n ≤ i) (k : post c) : wX_edge_21 post x y d s n a1 a2 a3 a4 a5 a6 a7 (m + 1) c i := br_t h k
theorem ft_e_61 {post : Int32 → Prop} {J : Int32 → Int32 → Prop} {x y c i : Int32} (i' : Int32) (hi' : i + 1 = i') (k : J c i') : wX_edge_61 post J x y c i d s n a1 a2 a3 a4 a5 a6 a7 :=
  br_t rfl (nm_r (Int32.add_zero c) (nm_r hi' k))
theorem ft_e_skip {post : Int32 → Prop} {x y c i : Int32} {m : Nat} (i' : Int32) (hi' : i + 1 = i') (h : ¬ n ≤ i) (hi : vp_in i 321) (h3 : vp_in (a3 i.toNatClampNeg) 321) (hs : a2 i.toNatClampNeg = y → ¬ a2 (a3 i.toNatClampNeg).toNatClampNeg = x) (k : wX_edge_21 post x y d s n a1 a2 a3 a4 a5 a6 a7 m c i') : wX_edge_21 post x y d s n a1 a2 a3 a4 a5 a6 a7 (m + 1) c i :=
  br_f h ⟨hi, br_c (fun z => ⟨hi, h3, br_f (hs z) (ft_e_61 i' hi' k)⟩) (fun _ => ft_e_61 i' hi' k)⟩
/-- node 2 below node 1 below node 0, which has no function: no such pair above -/
theorem ft_above {post : Int32 → Prop} {x y : Int32} (h32 : a3 2 = 1) (h31 : a3 1 = 0) (h20 : a2 0 = -1) (hx : ¬ x < 0) (k : post 0) : wpX_standsAbove post (d, s, n, a1, a2, a3, a4, a5, a6, a7) 2 x y := by
  unfold wpX_standsAbove
  have i1 : vp_in 1 321 := ft_in (by decide)
  have h3i : vp_in (a3 (1 : Int32).toNatClampNeg) 321 := by
    rw [show (1 : Int32).toNatClampNeg = 1 by decide, h31]
    exact ft_in (by decide)
  have hn : ¬ a2 (a3 (1 : Int32).toNatClampNeg).toNatClampNeg = x := by
    rw [show (1 : Int32).toNatClampNeg = 1 by decide, h31, show (0 : Int32).toNatClampNeg = 0 by decide, h20]
    exact ft_m1 hx
  have hl : ∀ m, wX_standsAbove_11 post x y d s n a1 a2 a3 a4 a5 a6 a7 (m + 1) 0 1 := fun m => br_f (by decide) (br_t (by decide) k)
  refine ⟨ft_in (by decide), nm_r (e' := 1) h32 ⟨2, ?_⟩⟩
  exact br_f (by decide) (br_f (by decide) ⟨i1, br_c (fun _ => br_f hx ⟨i1, h3i, br_f hn ⟨i1, nm_r (e' := 0) h31 (nm_r (e' := 1) (by decide) (hl 0))⟩⟩) (fun _ => ⟨i1, nm_r (e' := 0) h31 (nm_r (e' := 1) (by decide) (hl 0))⟩)⟩)
theorem ft_e_take {post : Int32 → Prop} {x y c c' : Int32} {m : Nat} (hc : c + a7 2 = c') (h : ¬ n ≤ 2) (h22 : a2 2 = y) (h21 : a2 1 = x) (h32 : a3 2 = 1) (h31 : a3 1 = 0) (h20 : a2 0 = -1) (hx : ¬ x < 0) (k : wX_edge_21 post x y d s n a1 a2 a3 a4 a5 a6 a7 m c' 3) : wX_edge_21 post x y d s n a1 a2 a3 a4 a5 a6 a7 (m + 1) c 2 := by
  have i2 : vp_in 2 321 := ft_in (by decide)
  have h3i : vp_in (a3 (2 : Int32).toNatClampNeg) 321 := by
    rw [show (2 : Int32).toNatClampNeg = 2 by decide, h32]
    exact ft_in (by decide)
  have hh : a2 (a3 (2 : Int32).toNatClampNeg).toNatClampNeg = x := by
    rw [show (2 : Int32).toNatClampNeg = 2 by decide, h32, show (1 : Int32).toNatClampNeg = 1 by decide, h21]
  exact br_f h ⟨i2, br_t h22 ⟨i2, h3i, br_t hh (br_f (by decide) (ft_above h32 h31 h20 hx (br_t rfl ⟨i2, nm_r hc (nm_r (e' := 3) (by decide) k)⟩)))⟩⟩
theorem ft_edge {post : Int32 → Prop} {x y : Int32} (m : Nat) (hx0 : ¬ x < 0) (hx7 : ¬ 7 < x) (hy0 : ¬ y < 0) (hy7 : ¬ 7 < y) (k : wX_edge_21 post x y d s n a1 a2 a3 a4 a5 a6 a7 m 0 1) : wpX_edge post (d, s, n, a1, a2, a3, a4, a5, a6, a7) x y := by
  unfold wpX_edge
  dsimp only
  unfold wpX_isFunction
  exact br_f hx0 (br_f hx7 (br_f (by decide) (br_f hy0 (br_f hy7 (br_f (by decide) ⟨m, k⟩)))))
end
end
section
/-! behind the second sample: the law's checks, g = h and g ≠ h -/
section
variable {s : Int32} {a1 a2 a3 a4 a5 a6 a7 : Nat → Int32} {post : Int32 → St0 → Prop} {mc ms kc ks : Nat} {F G H A B : Int32}
/-- paths(1), paths(a + b), edge(f, g): g = h -/
theorem ft_214e (hp : post 1 ()) (hF0 : ¬ F < 0) (hF7 : ¬ 7 < F) (hG0 : ¬ G < 0) (hG7 : ¬ 7 < G) (hs1 : 1 ≤ A + B)
    (h20 : a2 0 = -1) (h21 : a2 1 = F) (h22 : a2 2 = G) (h31 : a3 1 = 0) (h32 : a3 2 = 1) (h71 : a7 1 = A + B) (h72 : a7 2 = A + B) :
    wL_lawOf_214 post mc ms F G G A B kc ks 1 s 3 a1 a2 a3 a4 a5 a6 a7 := by
  have i1 : vp_in 1 321 := ft_in (by decide)
  have i2 : vp_in 2 321 := ft_in (by decide)
  have l1 : ¬ a7 1 < 1 := by rw [h71]; exact Int32.not_lt.mpr hs1
  have l2 : ¬ a7 2 < 1 := by rw [h72]; exact Int32.not_lt.mpr hs1
  have m1 : ¬ a7 1 < A + B := by rw [h71]; exact Int32.lt_irrefl
  have m2 : ¬ a7 2 < A + B := by rw [h72]; exact Int32.lt_irrefl
  have i0 : vp_in (a3 (1 : Int32).toNatClampNeg) 321 := by
    rw [show (1 : Int32).toNatClampNeg = 1 by decide, h31]
    exact ft_in (by decide)
  have hsk : a2 (1 : Int32).toNatClampNeg = G → ¬ a2 (a3 (1 : Int32).toNatClampNeg).toNatClampNeg = F := fun _ => by
    rw [show (1 : Int32).toNatClampNeg = 1 by decide, h31, show (0 : Int32).toNatClampNeg = 0 by decide, h20]
    exact ft_m1 hF0
  unfold wL_lawOf_214
  refine ft_paths 3 (by decide) (ft_p_hit 1 2 (by decide) (by decide) (by decide) i1 l1 (ft_p_hit 2 3 (by decide) (by decide) (by decide) i2 l2 (ft_p_end (by decide) ?_)))
  refine br_t rfl (br_t rfl ?_)
  refine ft_paths 3 hs1 (ft_p_hit 1 2 (by decide) (by decide) (by decide) i1 m1 (ft_p_hit 2 3 (by decide) (by decide) (by decide) i2 m2 (ft_p_end (by decide) ?_)))
  refine br_t rfl (br_t rfl ?_)
  refine ft_edge 3 hF0 hF7 hG0 hG7 (ft_e_skip 2 (by decide) (by decide) i1 i0 hsk (ft_e_take (c' := A + B) ?_ (by decide) h22 h21 h32 h31 h20 hF0 (ft_e_end (by decide) ?_)))
  · rw [h72]; exact Int32.zero_add _
  · exact br_t rfl (br_t rfl hp)
/-- paths(1), paths(a + b), edge(f, g): g ≠ h -/
theorem ft_214n (hp : post 1 ()) (hF0 : ¬ F < 0) (hF7 : ¬ 7 < F) (hG0 : ¬ G < 0) (hG7 : ¬ 7 < G) (hGH : ¬ G = H) (hs1 : 1 ≤ A + B) (hA1 : ¬ A < 1) (hB1 : ¬ B < 1) (hAs : A < A + B) (hBs : B < A + B)
    (h20 : a2 0 = -1) (h21 : a2 1 = F) (h22 : a2 2 = G) (h23 : a2 3 = H) (h31 : a3 1 = 0) (h32 : a3 2 = 1) (h33 : a3 3 = 1) (h71 : a7 1 = A + B) (h72 : a7 2 = A) (h73 : a7 3 = B) :
    wL_lawOf_214 post mc ms F G H A B kc ks 1 s 4 a1 a2 a3 a4 a5 a6 a7 := by
  have i1 : vp_in 1 321 := ft_in (by decide)
  have i2 : vp_in 2 321 := ft_in (by decide)
  have i3 : vp_in 3 321 := ft_in (by decide)
  have l1 : ¬ a7 1 < 1 := by rw [h71]; exact Int32.not_lt.mpr hs1
  have l2 : ¬ a7 2 < 1 := by rw [h72]; exact hA1
  have l3 : ¬ a7 3 < 1 := by rw [h73]; exact hB1
  have m1 : ¬ a7 1 < A + B := by rw [h71]; exact Int32.lt_irrefl
  have m2 : a7 2 < A + B := by rw [h72]; exact hAs
  have m3 : a7 3 < A + B := by rw [h73]; exact hBs
  have i0 : vp_in (a3 (1 : Int32).toNatClampNeg) 321 := by
    rw [show (1 : Int32).toNatClampNeg = 1 by decide, h31]
    exact ft_in (by decide)
  have i0' : vp_in (a3 (3 : Int32).toNatClampNeg) 321 := by
    rw [show (3 : Int32).toNatClampNeg = 3 by decide, h33]
    exact ft_in (by decide)
  have hsk : a2 (1 : Int32).toNatClampNeg = G → ¬ a2 (a3 (1 : Int32).toNatClampNeg).toNatClampNeg = F := fun _ => by
    rw [show (1 : Int32).toNatClampNeg = 1 by decide, h31, show (0 : Int32).toNatClampNeg = 0 by decide, h20]
    exact ft_m1 hF0
  have hsk' : a2 (3 : Int32).toNatClampNeg = G → ¬ a2 (a3 (3 : Int32).toNatClampNeg).toNatClampNeg = F := fun z => by
    rw [show (3 : Int32).toNatClampNeg = 3 by decide, h23] at z
    exact absurd z.symm hGH
  unfold wL_lawOf_214
  refine ft_paths 4 (by decide) (ft_p_hit 1 2 (by decide) (by decide) (by decide) i1 l1 (ft_p_hit 2 3 (by decide) (by decide) (by decide) i2 l2 (ft_p_hit 3 4 (by decide) (by decide) (by decide) i3 l3 (ft_p_end (by decide) ?_))))
  refine br_f hGH (br_t rfl ?_)
  refine ft_paths 4 hs1 (ft_p_hit 1 2 (by decide) (by decide) (by decide) i1 m1 (ft_p_miss 1 3 (by decide) (by decide) (by decide) i2 m2 (ft_p_miss 1 4 (by decide) (by decide) (by decide) i3 m3 (ft_p_end (by decide) ?_))))
  refine br_f hGH (br_t rfl ?_)
  refine ft_edge 4 hF0 hF7 hG0 hG7 (ft_e_skip 2 (by decide) (by decide) i1 i0 hsk (ft_e_take (c' := A) ?_ (by decide) h22 h21 h32 h31 h20 hF0 (ft_e_skip 4 (by decide) (by decide) i3 i0' hsk' (ft_e_end (by decide) ?_))))
  · rw [h72]; exact Int32.zero_add _
  · exact br_f hGH (br_t rfl hp)
/-- the law from its first check of total on: g = h -/
theorem ft_123e (hp : post 1 ()) (hF0 : ¬ F < 0) (hF7 : ¬ 7 < F) (hG0 : ¬ G < 0) (hG7 : ¬ 7 < G) (hs1 : 1 ≤ A + B)
    (h10 : a1 0 = F) (h11 : a1 1 = G) (h20 : a2 0 = -1) (h21 : a2 1 = F) (h22 : a2 2 = G) (h31 : a3 1 = 0) (h32 : a3 2 = 1) (h40 : a4 0 = 1) (h41 : a4 1 = 2) (h52 : a5 2 = 0) (h61 : a6 1 = 0) (h71 : a7 1 = A + B) (h72 : a7 2 = A + B) :
    wL_lawOf_123 post mc ms F G G A B (A + B) (A + B) kc ks 2 s 3 a1 a2 a3 a4 a5 a6 a7 := by
  have hT : wL_lawOf_214 post mc ms F G G A B kc ks 1 s 3 a1 a2 a3 a4 a5 a6 a7 := ft_214e hp hF0 hF7 hG0 hG7 hs1 h20 h21 h22 h31 h32 h71 h72
  have hU : ∀ z r : Int32, wL_lawOf_202 post mc ms F G G A B z r kc ks 1 s 3 a1 a2 a3 a4 a5 a6 a7 := fun z r => br_c (fun _ => hT) (fun _ => br_t rfl hT)
  have hn : a2 1 = a1 0 := by rw [h21, h10]
  unfold wL_lawOf_123
  refine br_t rfl (ft_leave 1 1 (by decide) (by decide) (by decide) (ft_in (by decide)) (br_t h11 ?_))
  refine ft_total1 h40 hn (br_t h71 ?_)
  refine ft_own1 h40 hn (br_t h61 ?_)
  refine ft_hot 2 h40 hn h41 (ft_h_first (e := 0) (by decide) (ft_in (by decide)) h52 (ft_h_end (by decide) (ft_in (by decide)) ?_))
  exact br_c (fun _ => br_c (fun _ => br_c (fun _ => hU _ _) (fun _ => hU _ _)) (fun _ => hU _ _)) (fun _ => hU _ _)
/-- the law from its first check of total on: g ≠ h -/
theorem ft_123n (hp : post 1 ()) (hF0 : ¬ F < 0) (hF7 : ¬ 7 < F) (hG0 : ¬ G < 0) (hG7 : ¬ 7 < G) (hGH : ¬ G = H) (hs1 : 1 ≤ A + B) (hA1 : ¬ A < 1) (hB1 : ¬ B < 1) (hAs : A < A + B) (hBs : B < A + B)
    (h10 : a1 0 = F) (h11 : a1 1 = H) (h20 : a2 0 = -1) (h21 : a2 1 = F) (h22 : a2 2 = G) (h23 : a2 3 = H) (h31 : a3 1 = 0) (h32 : a3 2 = 1) (h33 : a3 3 = 1) (h40 : a4 0 = 1) (h41 : a4 1 = 3) (h52 : a5 2 = 0) (h53 : a5 3 = 2) (h61 : a6 1 = 0) (h71 : a7 1 = A + B) (h72 : a7 2 = A) (h73 : a7 3 = B) :
    wL_lawOf_123 post mc ms F G H A B B B kc ks 2 s 4 a1 a2 a3 a4 a5 a6 a7 := by
  have hT : wL_lawOf_214 post mc ms F G H A B kc ks 1 s 4 a1 a2 a3 a4 a5 a6 a7 := ft_214n hp hF0 hF7 hG0 hG7 hGH hs1 hA1 hB1 hAs hBs h20 h21 h22 h23 h31 h32 h33 h71 h72 h73
  have hU : ∀ z r : Int32, r = z → wL_lawOf_202 post mc ms F G H A B z r kc ks 1 s 4 a1 a2 a3 a4 a5 a6 a7 := fun z r e => br_t e hT
  have hn : a2 1 = a1 0 := by rw [h21, h10]
  unfold wL_lawOf_123
  refine br_t rfl (ft_leave 1 1 (by decide) (by decide) (by decide) (ft_in (by decide)) (br_t h11 ?_))
  refine ft_total1 h40 hn (br_t h71 ?_)
  refine ft_own1 h40 hn (br_t h61 ?_)
  have c2 : (2 : Int32).toNatClampNeg = 2 := by decide
  have c3 : (3 : Int32).toNatClampNeg = 3 := by decide
  refine ft_hot 3 h40 hn h41 (ft_h_first (e := 2) (by decide) (ft_in (by decide)) h53 (ft_h_next (e := 0) (by decide) (ft_in (by decide)) (by decide) (ft_in (by decide)) h52 (fun z => ?_) (fun z y x => ?_) (fun z y x => ?_) (fun z y => ?_)))
  · rw [c2, c3, h72, h73] at z
    refine ft_h_end (by decide) (ft_in (by decide)) ?_
    exact br_f (Int32.not_le.mpr z) (hU _ _ h22)
  · rw [c2, c3, h72, h73] at y
    rw [c2, c3, h22, h23] at x
    refine ft_h_end (by decide) (ft_in (by decide)) ?_
    exact br_t (by rw [y]; exact Int32.le_refl _) (br_t (by rw [y]; exact Int32.le_refl _) (br_t x (hU _ _ h23)))
  · rw [c2, c3, h72, h73] at y
    rw [c2, c3, h22, h23] at x
    refine ft_h_end (by decide) (ft_in (by decide)) ?_
    exact br_t (by rw [y]; exact Int32.le_refl _) (br_t (by rw [y]; exact Int32.le_refl _) (br_f x (hU _ _ h22)))
  · rw [c2, c3, h72, h73] at z y
    refine ft_h_end (by decide) (ft_in (by decide)) ?_
    have hl : A ≤ B := Int32.not_lt.mp z
    exact br_t hl (br_f (fun g => y (Int32.le_antisymm hl g)) (hU _ _ h23))
end
end
section
/-! the two samples, the law -/
section
variable {a1 a2 a3 a4 a5 a6 a7 : Nat → Int32}
/-- the first sample: stack of two, an empty tree -/
theorem ft_sample1 {post : Int32 → St2 → Prop} {A : Int32} (h1 : ¬ A < 1) (h2 : ¬ 100 < A) (h40 : a4 0 = 0) (h41 : a4 1 = 0)
    (k : post 1 (2, 1, 3, a1, upd (upd a2 1 (a1 0)) 2 (a1 1), upd (upd a3 1 0) 2 1, upd (upd a4 0 1) 1 2, upd (upd a5 1 (a4 0)) 2 (upd a4 0 1 1), upd a6 2 (a6 2 + A), upd (upd (upd a7 0 (a7 0 + A)) 1 (upd a7 0 (a7 0 + A) 1 + A)) 2 (upd (upd a7 0 (a7 0 + A)) 1 (upd a7 0 (a7 0 + A) 1 + A) 2 + A))) :
    wpX_sample post (2, 0, 1, a1, a2, a3, a4, a5, a6, a7) A := by
  have i0 : vp_in 0 321 := ft_in (by decide)
  have i1 : vp_in 1 321 := ft_in (by decide)
  have h41' : upd a4 0 1 1 = 0 := by rw [pk_un (by decide), h41]
  refine ft_sample 3 h1 h2 (by decide) (ft_s_new (by decide) (ft_in (by decide)) i0 i1 (fun q hq => ft_cw0 i0 h40 hq) ?_)
  refine ft_s_new (by decide) (ft_in (by decide)) i1 (ft_in (by decide)) (fun q hq => ft_cw0 i1 h41' hq) ?_
  refine ft_s_end (by decide) (ft_in (by decide)) ?_
  exact k
/-- the second sample and all behind it -/
theorem ft_second {post : Int32 → St0 → Prop} {mc ms kc ks : Nat} {F G H A B : Int32} (hp : post 1 ()) (hF0 : ¬ F < 0) (hF7 : ¬ 7 < F) (hG0 : ¬ G < 0) (hG7 : ¬ 7 < G) (hs1 : 1 ≤ A + B) (hA1 : ¬ A < 1) (hB1 : ¬ B < 1) (hB2 : ¬ 100 < B) (hAs : A < A + B) (hBs : B < A + B)
    (h10 : a1 0 = F) (h11 : a1 1 = H) (h20 : a2 0 = -1) (h21 : a2 1 = F) (h22 : a2 2 = G) (h31 : a3 1 = 0) (h32 : a3 2 = 1) (h40 : a4 0 = 1) (h41 : a4 1 = 2) (h52 : a5 2 = 0) (h61 : a6 1 = 0) (h71 : a7 1 = A) (h72 : a7 2 = A) (h73 : a7 3 = 0) :
    wpX_sample (fun r_165 u => match u with | (fm0_depth_166, fm0_samples_167, fm0_nodes_168, am941_171, am942_174, am943_177, am944_180, am945_183, am946_186, am947_189) => (((r_165 = 2 → (wpX_total (fun r_191 => (((G = H → (wL_lawOf_123 post mc ms F G H A B (A + B) r_191 kc ks fm0_depth_166 fm0_samples_167 fm0_nodes_168 am941_171 am942_174 am943_177 am944_180 am945_183 am946_186 am947_189)) ∧ (¬ G = H → (wL_lawOf_123 post mc ms F G H A B B r_191 kc ks fm0_depth_166 fm0_samples_167 fm0_nodes_168 am941_171 am942_174 am943_177 am944_180 am945_183 am946_186 am947_189))))) (fm0_depth_166, fm0_samples_167, fm0_nodes_168, am941_171, am942_174, am943_177, am944_180, am945_183, am946_186, am947_189))) ∧ (¬ r_165 = 2 → (post 0 ())))))
      (2, 1, 3, a1, a2, a3, a4, a5, a6, a7) B := by
  have i0 : vp_in 0 321 := ft_in (by decide)
  have i1 : vp_in 1 321 := ft_in (by decide)
  have i2 : vp_in 2 321 := ft_in (by decide)
  have i3 : vp_in 3 321 := ft_in (by decide)
  have hn : a2 1 = a1 0 := by rw [h21, h10]
  by_cases e : G = H
  · subst e
    have hn2 : a2 2 = a1 1 := by rw [h22, h11]
    refine ft_sample 3 hB1 hB2 (by decide) (ft_s_old (c := 1) (by decide) (ft_in (by decide)) i0 h40 (by decide) i1 hn ?_)
    refine ft_s_old (c := 2) (by decide) (ft_in (by decide)) i1 h41 (by decide) i2 hn2 ?_
    refine ft_s_end (by decide) i2 ?_
    refine br_t (by decide) ?_
    have w1 : upd (upd (upd a7 0 (a7 0 + B)) 1 (upd a7 0 (a7 0 + B) 1 + B)) 2 (upd (upd a7 0 (a7 0 + B)) 1 (upd a7 0 (a7 0 + B) 1 + B) 2 + B) 1 = A + B := by
      rw [pk_un (by decide), pk_us, pk_un (by decide), h71]
    have w2 : upd (upd (upd a7 0 (a7 0 + B)) 1 (upd a7 0 (a7 0 + B) 1 + B)) 2 (upd (upd a7 0 (a7 0 + B)) 1 (upd a7 0 (a7 0 + B) 1 + B) 2 + B) 2 = A + B := by
      rw [pk_us, pk_un (by decide), pk_un (by decide), h72]
    have v1 : upd a6 2 (a6 2 + B) 1 = 0 := by rw [pk_un (by decide), h61]
    refine ft_total2 (c := 2) h40 hn h41 (by decide) (by decide) i2 hn2 (br_t rfl ?_)
    refine ek_v (P := fun r => wL_lawOf_123 post mc ms F G G A B (A + B) r kc ks 2 2 3 a1 a2 a3 a4 a5 (upd a6 2 (a6 2 + B)) (upd (upd (upd a7 0 (a7 0 + B)) 1 (upd a7 0 (a7 0 + B) 1 + B)) 2 (upd (upd a7 0 (a7 0 + B)) 1 (upd a7 0 (a7 0 + B) 1 + B) 2 + B))) w2 ?_
    exact ft_123e hp hF0 hF7 hG0 hG7 hs1 h10 h11 h20 h21 h22 h31 h32 h40 h41 h52 v1 w1 w2
  · have hm2 : ¬ a2 2 = a1 1 := by rw [h22, h11]; exact e
    refine ft_sample 3 hB1 hB2 (by decide) (ft_s_old (c := 1) (by decide) (ft_in (by decide)) i0 h40 (by decide) i1 hn ?_)
    refine ft_s_new (by decide) (ft_in (by decide)) i1 i3 (fun q hq => ft_cwm (c := 2) i1 h41 (by decide) i2 hm2 h52 hq) ?_
    refine ft_s_end (by decide) i3 ?_
    refine br_t (by decide) ?_
    have w1 : upd (upd (upd a7 0 (a7 0 + B)) 1 (upd a7 0 (a7 0 + B) 1 + B)) 3 (upd (upd a7 0 (a7 0 + B)) 1 (upd a7 0 (a7 0 + B) 1 + B) 3 + B) 1 = A + B := by
      rw [pk_un (by decide), pk_us, pk_un (by decide), h71]
    have w2 : upd (upd (upd a7 0 (a7 0 + B)) 1 (upd a7 0 (a7 0 + B) 1 + B)) 3 (upd (upd a7 0 (a7 0 + B)) 1 (upd a7 0 (a7 0 + B) 1 + B) 3 + B) 2 = A := by
      rw [pk_un (by decide), pk_un (by decide), pk_un (by decide), h72]
    have w3 : upd (upd (upd a7 0 (a7 0 + B)) 1 (upd a7 0 (a7 0 + B) 1 + B)) 3 (upd (upd a7 0 (a7 0 + B)) 1 (upd a7 0 (a7 0 + B) 1 + B) 3 + B) 3 = B := by
      rw [pk_us, pk_un (by decide), pk_un (by decide), h73, Int32.zero_add]
    have v1 : upd a6 3 (a6 3 + B) 1 = 0 := by rw [pk_un (by decide), h61]
    have x0 : upd a2 3 (a1 1) 0 = -1 := by rw [pk_un (by decide), h20]
    have x1 : upd a2 3 (a1 1) 1 = F := by rw [pk_un (by decide), h21]
    have x1' : upd a2 3 (a1 1) 1 = a1 0 := by rw [x1, h10]
    have x2 : upd a2 3 (a1 1) 2 = G := by rw [pk_un (by decide), h22]
    have x3 : upd a2 3 (a1 1) 3 = H := by rw [pk_us, h11]
    have x3' : upd a2 3 (a1 1) 3 = a1 1 := pk_us
    have y1 : upd a3 3 1 1 = 0 := by rw [pk_un (by decide), h31]
    have y2 : upd a3 3 1 2 = 1 := by rw [pk_un (by decide), h32]
    have y3 : upd a3 3 1 3 = 1 := pk_us
    have z0 : upd a4 1 3 0 = 1 := by rw [pk_un (by decide), h40]
    have z1 : upd a4 1 3 1 = 3 := pk_us
    have t2 : upd a5 3 (a4 1) 2 = 0 := by rw [pk_un (by decide), h52]
    have t3 : upd a5 3 (a4 1) 3 = 2 := by rw [pk_us, h41]
    refine ft_total2 (c := 3) z0 x1' z1 (by decide) (by decide) i3 x3' (br_f e ?_)
    refine ek_v (P := fun r => wL_lawOf_123 post mc ms F G H A B B r kc ks 2 2 4 a1 (upd a2 3 (a1 1)) (upd a3 3 1) (upd a4 1 3) (upd a5 3 (a4 1)) (upd a6 3 (a6 3 + B)) (upd (upd (upd a7 0 (a7 0 + B)) 1 (upd a7 0 (a7 0 + B) 1 + B)) 3 (upd (upd a7 0 (a7 0 + B)) 1 (upd a7 0 (a7 0 + B) 1 + B) 3 + B))) w3 ?_
    exact ft_123n hp hF0 hF7 hG0 hG7 e hs1 hA1 hB1 hAs hBs h10 h11 x0 x1 x2 x3 y1 y2 y3 z0 z1 t2 t3 v1 w1 w2 w3
end
/-- a function: 0 .. 7 -/
theorem ft_fun (x : Int32) : ¬ x &&& 7 < 0 ∧ ¬ 7 < x &&& 7 := by
  obtain ⟨j, hj, e⟩ := pk_andE x (m := 7) 3 (by decide)
  rw [e]
  exact ⟨nI_pos (by omega), nI_nlt (b := j) (a := 7) (by omega) (by decide)⟩
/-- a weight: 1 .. 100 -/
theorem ft_wt (x : Int32) : ∃ j : Nat, 1 ≤ j ∧ j ≤ 100 ∧ 1 + ((x &&& 255) - (x &&& 255) / 100 * 100) = nI j := by
  obtain ⟨j, hj, e⟩ := pk_andE x (m := 255) 8 (by decide)
  rw [e]
  have h : nI j - nI j / nI 100 * nI 100 = nI (j % 100) := pk_rem (by omega) (by decide) (by decide)
  refine ⟨1 + j % 100, by omega, by omega, ?_⟩
  rw [← nI_add]
  exact congrArg (fun t => (1 : Int32) + t) h
theorem ft_lawOf {post : Int32 → St0 → Prop} (hp : post 1 ()) (p0 p1 p2 p3 p4 : Int32) : wpL_lawOf post 100 10000 () p0 p1 p2 p3 p4 := by
  obtain ⟨hF0, hF7⟩ := ft_fun p0
  obtain ⟨hG0, hG7⟩ := ft_fun p1
  obtain ⟨hH0, hH7⟩ := ft_fun p2
  obtain ⟨a, ha1, ha2, ea⟩ := ft_wt p3
  obtain ⟨b, hb1, hb2, eb⟩ := ft_wt p4
  have es : nI a + nI b = nI (a + b) := nI_add a b
  have hA1 : ¬ nI a < 1 := nI_nlt (a := a) (b := 1) ha1 (by omega)
  have hA2 : ¬ 100 < nI a := nI_nlt (a := 100) (b := a) ha2 (by decide)
  have hB1 : ¬ nI b < 1 := nI_nlt (a := b) (b := 1) hb1 (by omega)
  have hB2 : ¬ 100 < nI b := nI_nlt (a := 100) (b := b) hb2 (by decide)
  have hs1 : 1 ≤ nI a + nI b := by rw [es]; exact nI_le (a := 1) (b := a + b) (by omega) (by omega)
  have hAs : nI a < nI a + nI b := by rw [es]; exact nI_lt (by omega) (by omega)
  have hBs : nI b < nI a + nI b := by rw [es]; exact nI_lt (by omega) (by omega)
  unfold wpL_lawOf
  refine ⟨by decide, by decide, 20, 5000, by decide, by decide, ?_⟩
  unfold wpX_init
  refine ⟨by decide, by decide, by decide, by decide, by decide, by decide, by decide, by decide, by decide, by decide, by decide, by decide, by decide, by decide, nm_e ?_⟩
  refine nm_e (nm_e (nm_e ⟨by decide, nm_r ea ⟨by decide, nm_r eb ?_⟩⟩))
  refine ft_call 0 1 (by decide) (by decide) hF0 hF7 (by decide) (ft_in (by decide)) ?_
  refine ft_call 1 2 (by decide) (by decide) hG0 hG7 (by decide) (ft_in (by decide)) ?_
  refine ft_sample1 hA1 hA2 rfl rfl ?_
  refine ft_leave 1 1 (by decide) (by decide) (by decide) (ft_in (by decide)) ?_
  refine ft_call 1 2 (by decide) (by decide) hH0 hH7 (by decide) (ft_in (by decide)) ?_
  exact ft_second hp hF0 hF7 hG0 hG7 hs1 hA1 hB1 hB2 hAs hBs rfl rfl rfl rfl rfl rfl rfl rfl rfl rfl rfl (Int32.zero_add _) (Int32.zero_add _) rfl
theorem ft_cell {post : Int32 → Prop} {xs : Nat → Int32} {L : Nat} (hL : L ≤ 5) (j : Nat) (p : Int32) (hj : p = nI j) (hj5 : j < 5) (k : ∀ r, post r) : wpL_cellAt post L xs () p := by
  unfold wpL_cellAt
  refine ⟨fun _ => k _, fun h => ⟨?_, k _⟩⟩
  rw [hj] at h ⊢
  refine vp_in_nI ?_ (by omega)
  rcases Nat.lt_or_ge j L with z | z
  · exact z
  · exact absurd (nI_le z (by omega)) h
theorem i_vc (xs : Nat → Int32) (L : Nat) (hL : L ≤ 5) : wpL_law (fun r => r = 1) L xs := by
  unfold wpL_law
  refine ft_cell hL 0 0 rfl (by decide) (fun r1 => ft_cell hL 1 1 rfl (by decide) (fun r2 => ft_cell hL 2 2 rfl (by decide) (fun r3 => ft_cell hL 3 3 rfl (by decide) (fun r4 => ft_cell hL 4 4 rfl (by decide) (fun r5 => ?_)))))
  exact ⟨100, 10000, by decide, by decide, ft_lawOf (post := fun r _ => r = 1) rfl r1 r2 r3 r4 r5⟩
end

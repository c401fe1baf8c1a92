section
/-! numbers: bits of 0 and 1, the places 0, 1, 16 -/
theorem hv_bit0 : ∀ k, k < 16 → ((0 : Int32) >>> (nI k &&& 31)) &&& 1 = 0 := by decide +kernel
theorem hv_bit1 : ∀ k, k < 16 → k ≠ 0 → ((1 : Int32) >>> (nI k &&& 31)) &&& 1 = 0 := by decide +kernel
theorem hv_c0 : (0 : Int32).toNatClampNeg = 0 := by decide
theorem hv_c1 : (1 : Int32).toNatClampNeg = 1 := by decide
theorem hv_c16 : (16 : Int32).toNatClampNeg = 16 := by decide
theorem hv_in (x : Int32) (N : Nat) (h : 0 ≤ x.toInt ∧ x.toInt < N) : vp_in x N := vp_in_iff.mpr h
theorem hv_in0 : vp_in 0 17 := vp_in_iff.mpr (by decide)
theorem hv_in1 : vp_in 1 17 := vp_in_iff.mpr (by decide)
theorem hv_in16 : vp_in 16 17 := vp_in_iff.mpr (by decide)
/-- a written place, and another one -/
theorem hv_at {s a : Nat → Int32} {i x y : Int32} {k : Nat} (hs : s = upd a i.toNatClampNeg x) (hi : i.toNatClampNeg = k) (hx : x = y) : s k = y := by
  subst hs hx hi
  exact pk_us
theorem hv_no {s a : Nat → Int32} {i x : Int32} {k j : Nat} (hs : s = upd a i.toNatClampNeg x) (hi : i.toNatClampNeg = k) (hj : j ≠ k) : s j = a j := by
  subst hs hi
  exact pk_un hj
theorem hv_pt {s a : Nat → Int32} {x y : Int32} {k : Nat} (hs : s = upd a k x) (hx : x = y) : s k = y := by
  subst hs hx
  exact pk_us
theorem hv_pn {s a : Nat → Int32} {x : Int32} {k j : Nat} (hs : s = upd a k x) (hj : j ≠ k) : s j = a j := by
  subst hs
  exact pk_un hj
/-! the walk -/
section
variable {f0 f1 f2 f3 f4 : Int32} {a1 a2 a3 a4 a5 a6 a7 a8 a9 a10 a11 a12 a13 a14 a15 a16 : Nat → Int32}
theorem hv_fu {post : Int32 → Prop} {s : Int32} (h : ∀ k, k < 16 → ((s >>> (nI k &&& 31)) &&& 1) = 0 ∨ 0 ≤ a5 k) (hp : post (-1)) : wpX_firstUnmet post (f0, f1, f2, f3, f4, a1, a2, a3, a4, a5, a6, a7, a8, a9, a10, a11, a12, a13, a14, a15, a16) s :=
  pk_loop (σ := Unit) (fun n i _ => wX_firstUnmet_2 post s f0 f1 f2 f3 f4 a1 a2 a3 a4 a5 a6 a7 a8 a9 a10 a11 a12 a13 a14 a15 a16 n (nI i)) (fun _ _ => True) 16 0 () (by omega) trivial
    (fun n _ _ => pk_le 16 16 (fun _ => hp) (fun z => absurd z (by omega)))
    (fun n i _ hi _ hw => pk_le 16 i (fun z => absurd z (by omega)) (fun _ => br_c (fun _ => nm_r (nI_1 i) (hw () trivial)) (fun g => ⟨pk_in i 17 (by omega), br_t ((h i hi).elim (fun t => absurd t g) (fun t => by rw [nI_clamp (by omega)]; exact t)) (nm_r (nI_1 i) (hw () trivial))⟩)))
theorem hv_fu1 {post : Int32 → Prop} {s : Int32} (hs : s = 1) (h : ¬ 0 ≤ a5 0) (hp : post 0) : wpX_firstUnmet post (f0, f1, f2, f3, f4, a1, a2, a3, a4, a5, a6, a7, a8, a9, a10, a11, a12, a13, a14, a15, a16) s := by
  subst hs
  exact ⟨1, br_f (by decide) (br_f (by decide) ⟨hv_in0, br_f (by rw [hv_c0]; exact h) hp⟩)⟩
/-- a turn that leaves a vertex -/
theorem hv_wl {post : St2 → Prop} {n : Nat} (d r X : Nat) (hd : d < 17) (hr : r < 40) (hX : X < 17) (h7 : a7 d = nI X)
    (hf : ∀ k, k < 16 → ((a2 X >>> (nI k &&& 31)) &&& 1) = 0 ∨ 0 ≤ a5 k) (H : wX_walk_57 post n (nI d) (nI (r + 1)) f0 f1 f2 f3 f4 a1 a2 a3 a4 a5 a6 a7 a8 a9 a10 a11 a12 a13 a14 a15 a16) :
    wX_walk_57 post (n + 1) (nI (d + 1)) (nI r) f0 f1 f2 f3 f4 a1 a2 a3 a4 a5 a6 a7 a8 a9 a10 a11 a12 a13 a14 a15 a16 :=
  pk_le 40 r (fun z => absurd z (by omega)) (fun _ => pk_le (d + 1) 0 (fun z => absurd z (by omega)) (fun _ =>
    ⟨by rw [nI_pred]; exact pk_in d 17 hd, nm_r (e' := nI X) (by rw [nI_pred, nI_clamp (by omega)]; exact h7)
      ⟨pk_in X 17 hX, hv_fu (by rw [nI_clamp (by omega)]; exact hf) (br_f (by decide) (nm_r (pk_m1 d) (nm_r (nI_1 r) H)))⟩⟩))
theorem hv_wx {post : St2 → Prop} {n : Nat} (r : Nat) (hr : r < 40) (H : post (f0, f1, f2, f3, f4, a1, a2, a3, a4, a5, a6, a7, a8, a9, a10, a11, a12, a13, a14, a15, a16)) : wX_walk_57 post (n + 1) (nI 0) (nI r) f0 f1 f2 f3 f4 a1 a2 a3 a4 a5 a6 a7 a8 a9 a10 a11 a12 a13 a14 a15 a16 :=
  pk_le 40 r (fun z => absurd z (by omega)) (fun _ => br_t (by decide) H)
/-- the loop that unnumbers, and TOP met -/
theorem hv_walk {post : St2 → Prop} (H : ∀ b2 b4 b5 b6 b7 : Nat → Int32, (∀ k, k < 16 → b2 k = a2 k) → b2 16 = (f2.toUInt32 % 65536).toInt32 → (∀ k, k < 16 → b5 k = -1) → b5 16 = 0 → b7 0 = 16 →
    ∃ n, wX_walk_57 post n 1 0 f0 f1 f2 f3 1 a1 b2 a3 b4 b5 b6 b7 a8 a9 a10 a11 a12 a13 a14 a15 a16) : wpX_walk post (f0, f1, f2, f3, f4, a1, a2, a3, a4, a5, a6, a7, a8, a9, a10, a11, a12, a13, a14, a15, a16) :=
  pk_loop (fun n i s => wX_walk_2 post f0 f1 f2 f3 f4 n (nI i) a1 a2 a3 a4 s a6 a7 a8 a9 a10 a11 a12 a13 a14 a15 a16) (fun i s => ∀ k, k < i → s k = -1) 17 0 a5 (by omega) (fun k hk => absurd hk (by omega))
    (fun n s h => pk_le 17 17 (fun _ => fun b2 h2 => ⟨hv_in16, fun b5 h5 => ⟨hv_in0, fun b4 h4 => ⟨hv_in0, fun b6 h6 => nm_r (e' := 1) (by decide) (fun b7 h7 =>
      H b2 b4 b5 b6 b7 (fun k hk => hv_pn h2 (by omega)) (hv_pt h2 rfl) (fun k hk => (hv_no h5 hv_c16 (by omega)).trans (h k (by omega))) (hv_at h5 hv_c16 (by decide)) (hv_pt h7 rfl))⟩⟩⟩) (fun z => absurd z (by omega)))
    (fun n i s hi h hw => pk_le 17 i (fun z => absurd z (by omega)) (fun _ => ⟨pk_in i 17 hi, fun b5 h5 => nm_r (nI_1 i) (hw b5 (fun k hk => by
      by_cases e : k = i
      · rw [e]; exact hv_at h5 (nI_clamp (by omega)) rfl
      · exact (hv_no h5 (nI_clamp (by omega)) e).trans (h k (by omega))))⟩))
/-- no root: TOP alone is met -/
theorem hv_walk0 {post : St2 → Prop} (H : ∀ b2 b4 b5 b6 b7 : Nat → Int32, (∀ k, k < 16 → b5 k = -1) → post (f0, f1, 0, f3, 1, a1, b2, a3, b4, b5, b6, b7, a8, a9, a10, a11, a12, a13, a14, a15, a16)) : wpX_walk post (f0, f1, 0, f3, f4, a1, a2, a3, a4, a5, a6, a7, a8, a9, a10, a11, a12, a13, a14, a15, a16) :=
  hv_walk (fun b2 b4 b5 b6 b7 _ h2 h5 _ h7 => ⟨2, hv_wl 0 0 16 (by omega) (by omega) (by omega) h7 (fun k hk => Or.inl (by rw [h2]; exact hv_bit0 k hk)) (hv_wx 1 (by omega) (H b2 b4 b5 b6 b7 h5))⟩)
/-- object 0 is the one root and refers to nothing: TOP and 0 are met -/
theorem hv_walk1 {post : St2 → Prop} (h20 : a2 0 = 0) (H : ∀ b2 b4 b5 b6 b7 : Nat → Int32, b5 0 = 1 → b4 1 = 0 → b6 1 = 0 → post (f0, f1, 1, f3, 2, a1, b2, a3, b4, b5, b6, b7, a8, a9, a10, a11, a12, a13, a14, a15, a16)) : wpX_walk post (f0, f1, 1, f3, f4, a1, a2, a3, a4, a5, a6, a7, a8, a9, a10, a11, a12, a13, a14, a15, a16) :=
  hv_walk (fun b2 b4 b5 b6 b7 g2 h2 h5 h56 h7 => ⟨4, br_f (by decide) (br_f (by decide) ⟨hv_in _ _ (by decide), nm_r (e' := 16) h7 ⟨hv_in16, hv_fu1 (by rw [hv_c16, h2]; decide) (by rw [h5 0 (by omega)]; decide)
    (br_t (by decide) ⟨hv_in16, hv_in0, fun c5 k5 => ⟨hv_in1, fun c4 k4 => ⟨hv_in1, fun c6 k6 => nm_r (e' := 2) (by decide) ⟨hv_in1, fun c7 k7 => nm_r (e' := 2) (by decide) (nm_r (e' := 1) (by decide)
      (hv_wl 1 1 0 (by omega) (by omega) (by omega) (hv_at k7 hv_c1 (by decide)) (fun k hk => Or.inl (by rw [g2 0 (by omega), h20]; exact hv_bit0 k hk))
        (hv_wl 0 2 16 (by omega) (by omega) (by omega) ((hv_no k7 hv_c1 (by omega)).trans h7) (fun k hk => by
          by_cases e : k = 0
          · right; rw [e, hv_at k5 hv_c0 (by decide : (1 : Int32).toInt8.toInt32 = 1)]; decide
          · left; rw [h2]; exact hv_bit1 k hk e)
          (hv_wx 3 (by omega) (H b2 c4 c5 c6 c7 (hv_at k5 hv_c0 (by decide)) (hv_at k4 hv_c1 (by decide)) (hv_at k6 hv_c1 (by rw [hv_c16, h56]; decide)))))))⟩⟩⟩⟩)⟩⟩)⟩)
end
end
section
/-! the tree of keepers, with no live object and with object 0 alone -/
section
variable {f0 f1 f2 f3 f4 : Int32} {a1 a2 a3 a4 a5 a6 a7 a8 a9 a10 a11 a12 a13 a14 a15 a16 : Nat → Int32}
theorem hv_settle1 {post : St2 → Prop} (H : ∀ b14 : Nat → Int32, post (f0, f1, f2, f3, 1, a1, a2, a3, a4, a5, a6, a7, a8, a9, a10, a11, a12, a13, b14, a15, a16)) : wpX_settle post (f0, f1, f2, f3, 1, a1, a2, a3, a4, a5, a6, a7, a8, a9, a10, a11, a12, a13, a14, a15, a16) :=
  fun b _ => ⟨1, br_t (by decide) (H b)⟩
theorem hv_settle2 {post : St2 → Prop} (h13 : a13 1 = 0) (h8 : a8 1 = 0) (H : ∀ b14 : Nat → Int32, post (f0, f1, f2, f3, 2, a1, a2, a3, a4, a5, a6, a7, a8, a9, a10, a11, a12, a13, b14, a15, a16)) : wpX_settle post (f0, f1, f2, f3, 2, a1, a2, a3, a4, a5, a6, a7, a8, a9, a10, a11, a12, a13, a14, a15, a16) :=
  fun b _ => ⟨2, br_f (by decide) ⟨hv_in1, hv_in1, br_t (by rw [hv_c1, h13, h8]) ⟨hv_in1, by rw [hv_c1, h13]; exact hv_in0, hv_in1, fun c _ => nm_r (e' := 2) (by decide) (br_t (by decide) (H c))⟩⟩⟩
theorem hv_total1 {post : St2 → Prop} (H : ∀ b15 b16 : Nat → Int32, b15 0 = 0 → post (f0, f1, f2, f3, 1, a1, a2, a3, a4, a5, a6, a7, a8, a9, a10, a11, a12, a13, a14, b15, b16)) : wpX_total post (f0, f1, f2, f3, 1, a1, a2, a3, a4, a5, a6, a7, a8, a9, a10, a11, a12, a13, a14, a15, a16) :=
  ⟨2, br_f (by decide) ⟨hv_in0, fun b15 h15 => ⟨hv_in0, fun b16 _ => nm_r (e' := 1) (by decide) (br_t (by decide) (nm_r (e' := 0) (by decide) ⟨1, br_t (by decide) (H b15 b16 (hv_at h15 hv_c0 rfl))⟩))⟩⟩⟩
theorem hv_total37 {post : St2 → Prop} (h4 : a4 1 = 0) (h13 : a13 1 = 0) (h0 : a15 0 = 0) (h1 : a15 1 = 0) (H : ∀ b15 b16 : Nat → Int32, b15 0 = 1 → post (f0, f1, f2, f3, f4, a1, a2, a3, a4, a5, a6, a7, a8, a9, a10, a11, a12, a13, a14, b15, b16)) : ∃ n, wX_total_37 post f0 f1 f2 f3 f4 n 1 a1 a2 a3 a4 a5 a6 a7 a8 a9 a10 a11 a12 a13 a14 a15 a16 :=
  ⟨2, br_f (by decide) ⟨hv_in1, nm_r (e' := 0) h4 ⟨hv_in1, hv_in1, fun c15 k15 => ⟨hv_in1, hv_in _ _ (by decide), hv_in1, fun c16 _ => ⟨hv_in1, nm_r (e' := 0) h13 ⟨hv_in0, hv_in1, hv_in0, fun d15 e15 => ⟨hv_in0, hv_in1, hv_in0, fun d16 _ => nm_r (e' := 0) (by decide)
    (br_t (by decide) (H d15 d16 (hv_at e15 hv_c0 (by
      rw [hv_c0, hv_c1, hv_no (j := 0) k15 hv_c1 (by omega), h0, hv_at k15 hv_c1 rfl, hv_c1, h1]
      decide))))⟩⟩⟩⟩⟩⟩⟩
theorem hv_total2 {post : St2 → Prop} (h4 : a4 1 = 0) (h13 : a13 1 = 0) (H : ∀ b15 b16 : Nat → Int32, b15 0 = 1 → post (f0, f1, f2, f3, 2, a1, a2, a3, a4, a5, a6, a7, a8, a9, a10, a11, a12, a13, a14, b15, b16)) : wpX_total post (f0, f1, f2, f3, 2, a1, a2, a3, a4, a5, a6, a7, a8, a9, a10, a11, a12, a13, a14, a15, a16) :=
  ⟨3, br_f (by decide) ⟨hv_in0, fun b15 h15 => ⟨hv_in0, fun b16 _ => nm_r (e' := 1) (by decide) (br_f (by decide) ⟨hv_in1, fun c15 k15 => ⟨hv_in1, fun c16 _ => nm_r (e' := 2) (by decide) (br_t (by decide) (nm_r (e' := 1) (by decide)
    (hv_total37 h4 h13 ((hv_no k15 hv_c1 (by omega)).trans (hv_at h15 hv_c0 rfl)) (hv_at k15 hv_c1 rfl) H)))⟩⟩)⟩⟩⟩
theorem hv_fin1 {post : St2 → Prop} (H : ∀ b14 b15 b16 : Nat → Int32, b15 0 = 0 → post (f0, f1, f2, f3, 1, a1, a2, a3, a4, a5, a6, a7, a8, a9, a10, a11, a12, a13, b14, b15, b16)) : ∃ n, wX_find_77 post n 0 f0 f1 f2 f3 1 a1 a2 a3 a4 a5 a6 a7 a8 a9 a10 a11 a12 a13 a14 a15 a16 :=
  ⟨1, br_t (by decide) (hv_settle1 (fun b14 => hv_total1 (fun b15 b16 h => H b14 b15 b16 h)))⟩
theorem hv_fin2 {post : St2 → Prop} {n : Nat} (h4 : a4 1 = 0) (h8 : a8 1 = 0) (h13 : a13 1 = 0) (H : ∀ b14 b15 b16 : Nat → Int32, b15 0 = 1 → post (f0, f1, f2, f3, 2, a1, a2, a3, a4, a5, a6, a7, a8, a9, a10, a11, a12, a13, b14, b15, b16)) : wX_find_77 post (n + 1) 0 f0 f1 f2 f3 2 a1 a2 a3 a4 a5 a6 a7 a8 a9 a10 a11 a12 a13 a14 a15 a16 :=
  br_t (by decide) (hv_settle2 h13 h8 (fun b14 => hv_total2 h4 h13 (fun b15 b16 h => H b14 b15 b16 h)))
theorem hv_le {post : Int32 → St2 → Prop} (h4 : a4 1 = 0) (h3 : a3 0 = 0) (H : post 0 (f0, f1, 1, f3, f4, a1, a2, a3, a4, a5, a6, a7, a8, a9, a10, a11, a12, a13, a14, a15, a16)) : wpX_leastEntry post (f0, f1, 1, f3, f4, a1, a2, a3, a4, a5, a6, a7, a8, a9, a10, a11, a12, a13, a14, a15, a16) 1 :=
  ⟨hv_in1, nm_r (e' := 0) h4 (br_f (by decide) (pk_loop (σ := Unit) (fun n i _ => wX_leastEntry_25 post 0 n 0 (nI i) f0 f1 1 f3 f4 a1 a2 a3 a4 a5 a6 a7 a8 a9 a10 a11 a12 a13 a14 a15 a16) (fun _ _ => True) 16 0 () (by omega) trivial
    (fun n _ _ => pk_le 16 16 (fun _ => H) (fun z => absurd z (by omega)))
    (fun n i _ hi _ hw => pk_le 16 i (fun z => absurd z (by omega)) (fun _ => ⟨hv_in _ _ (by decide), br_t (by rw [hv_c0, h3]; exact hv_bit0 i hi) (br_t rfl (nm_r (nI_1 i) (hw () trivial)))⟩))))⟩
theorem hv_eval {post : Int32 → St2 → Prop} (h91 : a9 1 = 0) (h90 : a9 0 = -1) (h10 : a10 1 = 1) (H : post 1 (f0, f1, f2, f3, f4, a1, a2, a3, a4, a5, a6, a7, a8, a9, a10, a11, a12, a13, a14, a15, a16)) : wpX_eval_2 post (f0, f1, f2, f3, f4, a1, a2, a3, a4, a5, a6, a7, a8, a9, a10, a11, a12, a13, a14, a15, a16) 1 :=
  ⟨hv_in1, br_t (by rw [hv_c1, h91]; decide) ⟨1, br_f (by decide) ⟨hv_in1, br_f (by rw [hv_c1, h91]; decide) ⟨hv_in1, by rw [hv_c1, h91]; exact hv_in0, br_t (by rw [hv_c1, h91, hv_c0, h90]; decide) (nm_r (e' := -1) (by decide) ⟨1, br_t (by decide) ⟨hv_in1, by rw [hv_c1, h10]; exact H⟩⟩)⟩⟩⟩⟩
theorem hv_empty {post : St2 → Prop} {p : Int32} (hp : p = 0) (h11 : a11 0 = 2) (h91 : a9 1 = 0) (h90 : a9 0 = -1) (h10 : a10 1 = 1) (H : ∀ b11 b13 : Nat → Int32, b13 1 = 0 → post (f0, f1, f2, f3, 2, a1, a2, a3, a4, a5, a6, a7, a8, a9, a10, b11, a12, b13, a14, a15, a16)) : wpX_empty post (f0, f1, f2, f3, 2, a1, a2, a3, a4, a5, a6, a7, a8, a9, a10, a11, a12, a13, a14, a15, a16) p := by
  subst hp
  exact ⟨hv_in0, nm_r (e' := 2) h11 ⟨hv_in0, fun b11 _ => ⟨2, br_f (by decide) (br_f (by decide) (hv_eval h91 h90 h10 ⟨hv_in1, hv_in1, br_t (by rw [hv_c1]; exact Int32.le_refl _) ⟨hv_in1, fun b13 h13 => nm_r (e' := 2) (by decide) (br_t (by decide) (H b11 b13 (hv_at h13 hv_c1 (by decide))))⟩⟩))⟩⟩⟩
theorem hv_77 {post : St2 → Prop} (h3 : a3 0 = 0) (h4 : a4 1 = 0) (h6 : a6 1 = 0) (h90 : a9 0 = -1) (h10 : a10 1 = 1) (h11 : a11 0 = 0)
    (H : ∀ b8 b9 b11 b13 b14 b15 b16 : Nat → Int32, b13 1 = 0 → b15 0 = 1 → post (f0, f1, 1, f3, 2, a1, a2, a3, a4, a5, a6, a7, b8, b9, a10, b11, a12, b13, b14, b15, b16)) : ∃ n, wX_find_77 post n 1 f0 f1 1 f3 2 a1 a2 a3 a4 a5 a6 a7 a8 a9 a10 a11 a12 a13 a14 a15 a16 :=
  ⟨2, br_f (by decide) (hv_le h4 h3 ⟨hv_in1, fun b8 h8 => by
    have k8 : b8 1 = 0 := hv_at h8 hv_c1 (by decide)
    have i8 : vp_in (b8 (1 : Int32).toNatClampNeg) 17 := by rw [hv_c1, k8]; exact hv_in0
    refine ⟨hv_in1, i8, i8, fun b11 h11' => ⟨hv_in1, hv_in1, fun b9 h9 => ⟨hv_in1, ?_⟩⟩⟩
    rw [hv_c1, k8] at h11'
    refine hv_empty h6 (hv_at h11' hv_c0 (by rw [hv_c0, h11]; decide)) (hv_at h9 hv_c1 ?_) ((hv_no h9 hv_c1 (by omega)).trans h90) h10 (fun c11 b13 h13 => nm_r (e' := 0) (by decide) (hv_fin2 h4 k8 h13 (fun b14 b15 b16 h15 => H b8 b9 c11 b13 b14 b15 b16 h13 h15)))
    rw [hv_c1, h6]
    decide⟩)⟩
theorem hv_19a {post : St2 → Prop} (H : ∀ b8 b9 b10 b11 b13 : Nat → Int32, ∃ n, wX_find_77 post n 0 f0 f1 f2 f3 1 a1 a2 a3 a4 a5 a6 a7 b8 b9 b10 b11 a12 b13 a14 a15 a16) : ∃ n, wX_find_19 post f0 f1 f2 f3 1 n 0 a1 a2 a3 a4 a5 a6 a7 a8 a9 a10 a11 a12 a13 a14 a15 a16 :=
  ⟨2, br_f (by decide) ⟨hv_in0, fun b8 _ => ⟨hv_in0, fun b10 _ => ⟨hv_in0, fun b9 _ => ⟨hv_in0, fun b11 _ => ⟨hv_in0, fun b13 _ => nm_r (e' := 1) (by decide) (br_t (by decide) (nm_r (e' := 0) (by decide) (H b8 b9 b10 b11 b13)))⟩⟩⟩⟩⟩⟩
theorem hv_19b {post : St2 → Prop} (H : ∀ b8 b9 b10 b11 b13 : Nat → Int32, b9 0 = -1 → b10 1 = 1 → b11 0 = 0 → ∃ n, wX_find_77 post n 1 f0 f1 f2 f3 2 a1 a2 a3 a4 a5 a6 a7 b8 b9 b10 b11 a12 b13 a14 a15 a16) : ∃ n, wX_find_19 post f0 f1 f2 f3 2 n 0 a1 a2 a3 a4 a5 a6 a7 a8 a9 a10 a11 a12 a13 a14 a15 a16 :=
  ⟨3, br_f (by decide) ⟨hv_in0, fun b8 _ => ⟨hv_in0, fun b10 _ => ⟨hv_in0, fun b9 h9 => ⟨hv_in0, fun b11 h11 => ⟨hv_in0, fun b13 _ => nm_r (e' := 1) (by decide)
    (br_f (by decide) ⟨hv_in1, fun c8 _ => ⟨hv_in1, fun c10 k10 => ⟨hv_in1, fun c9 k9 => ⟨hv_in1, fun c11 k11 => ⟨hv_in1, fun c13 _ => nm_r (e' := 2) (by decide) (br_t (by decide) (nm_r (e' := 1) (by decide)
      (H c8 c9 c10 c11 c13 ((hv_no k9 hv_c1 (by omega)).trans (hv_at h9 hv_c0 rfl)) (hv_at k10 hv_c1 (by decide)) ((hv_no k11 hv_c1 (by omega)).trans (hv_at h11 hv_c0 rfl)))))⟩⟩⟩⟩⟩)⟩⟩⟩⟩⟩⟩
/-- find with no root -/
theorem hv_find0 {post : St2 → Prop} (H : ∀ b2 b4 b5 b6 b7 b8 b9 b10 b11 b13 b14 b15 b16 : Nat → Int32, b5 0 = -1 → b15 0 = 0 →
    post (f0, f1, 0, 1, 1, a1, b2, a3, b4, b5, b6, b7, b8, b9, b10, b11, a12, b13, b14, b15, b16)) : wpX_find post (f0, f1, 0, 0, f4, a1, a2, a3, a4, a5, a6, a7, a8, a9, a10, a11, a12, a13, a14, a15, a16) :=
  br_t rfl (hv_walk0 (fun b2 b4 b5 b6 b7 h5 => hv_19a (fun b8 b9 b10 b11 b13 => hv_fin1 (fun b14 b15 b16 h15 => H b2 b4 b5 b6 b7 b8 b9 b10 b11 b13 b14 b15 b16 (h5 0 (by omega)) h15))))
/-- find with object 0 the one root -/
theorem hv_find1 {post : St2 → Prop} (h2 : a2 0 = 0) (h3 : a3 0 = 0) (H : ∀ b2 b4 b5 b6 b7 b8 b9 b10 b11 b13 b14 b15 b16 : Nat → Int32, b5 0 = 1 → b4 1 = 0 → b13 1 = 0 → b15 0 = 1 →
    post (f0, f1, 1, 1, 2, a1, b2, a3, b4, b5, b6, b7, b8, b9, b10, b11, a12, b13, b14, b15, b16)) : wpX_find post (f0, f1, 1, 0, f4, a1, a2, a3, a4, a5, a6, a7, a8, a9, a10, a11, a12, a13, a14, a15, a16) :=
  br_t rfl (hv_walk1 h2 (fun b2 b4 b5 b6 b7 h5 h4 h6 => hv_19b (fun b8 b9 b10 b11 b13 h9 h10 h11 => hv_77 h3 h4 h6 h9 h10 h11 (fun c8 c9 c11 c13 b14 b15 b16 h13 h15 => H b2 b4 b5 b6 b7 c8 c9 b10 c11 c13 b14 b15 b16 h5 h4 h13 h15))))
theorem hv_findK {post : St2 → Prop} (H : post (f0, f1, f2, 1, f4, a1, a2, a3, a4, a5, a6, a7, a8, a9, a10, a11, a12, a13, a14, a15, a16)) : wpX_find post (f0, f1, f2, 1, f4, a1, a2, a3, a4, a5, a6, a7, a8, a9, a10, a11, a12, a13, a14, a15, a16) := br_f (by decide) H
end
end
section
/-! the states that the law meets behind setRoot: nothing made (N), object 0 made and no root (D), object 0 made and a root (H) -/
def hv_N (C : Nat) (u : St2) : Prop := ∃ (f4 : Int32) (a1 a2 a3 a4 a5 a6 a7 a8 a9 a10 a11 a12 a13 a14 a15 a16 : Nat → Int32), u = (nI C, 0, 0, 1, f4, a1, a2, a3, a4, a5, a6, a7, a8, a9, a10, a11, a12, a13, a14, a15, a16) ∧ a15 0 = 0
def hv_D (C : Nat) (u : St2) : Prop := ∃ (f3 f4 : Int32) (a1 a2 a3 a4 a5 a6 a7 a8 a9 a10 a11 a12 a13 a14 a15 a16 : Nat → Int32), u = (nI C, 1, 0, f3, f4, a1, a2, a3, a4, a5, a6, a7, a8, a9, a10, a11, a12, a13, a14, a15, a16) ∧ (f3 = 0 ∨ f3 = 1 ∧ a5 0 = -1 ∧ a15 0 = 0)
def hv_H (C : Nat) (u : St2) : Prop := ∃ (f4 : Int32) (a1 a2 a3 a4 a5 a6 a7 a8 a9 a10 a11 a12 a13 a14 a15 a16 : Nat → Int32), u = (nI C, 1, 1, 0, f4, a1, a2, a3, a4, a5, a6, a7, a8, a9, a10, a11, a12, a13, a14, a15, a16) ∧ a2 0 = 0 ∧ a3 0 = 0
def hv_K (C : Nat) (u : St2) : Prop := ∃ (f4 : Int32) (a1 a2 a3 a4 a5 a6 a7 a8 a9 a10 a11 a12 a13 a14 a15 a16 : Nat → Int32), u = (nI C, 1, 1, 1, f4, a1, a2, a3, a4, a5, a6, a7, a8, a9, a10, a11, a12, a13, a14, a15, a16) ∧ a5 0 = 1 ∧ a4 1 = 0 ∧ a13 1 = 0 ∧ a15 0 = 1
section
variable {f0 f1 f2 f3 f4 : Int32} {a1 a2 a3 a4 a5 a6 a7 a8 a9 a10 a11 a12 a13 a14 a15 a16 : Nat → Int32} {C : Nat}
theorem hv_has0 {post : Int32 → Prop} {p : Int32} (hC : C ≤ 16) (H : post 0) : wpX_has post (nI C, 0, f2, f3, f4, a1, a2, a3, a4, a5, a6, a7, a8, a9, a10, a11, a12, a13, a14, a15, a16) p :=
  br_c (fun _ => H) (fun g => br_c (fun _ => H) (fun g2 => br_t (by
    rcases pk_ix p (n := C) (by omega) with z | z | ⟨j, hj, rfl⟩
    · exact absurd z g
    · exact absurd z g2
    · exact hv_bit0 j (by omega)) H))
theorem hv_has1 {post : Int32 → Prop} {p : Int32} (h1 : 1 ≤ C) (hC : C ≤ 16) (H1 : p = 0 → post 1) (H0 : p ≠ 0 → post 0) : wpX_has post (nI C, 1, f2, f3, f4, a1, a2, a3, a4, a5, a6, a7, a8, a9, a10, a11, a12, a13, a14, a15, a16) p := by
  rcases pk_ix p (n := C) (by omega) with z | z | ⟨j, hj, rfl⟩
  · exact br_t z (H0 (fun e => by subst e; exact absurd z (by decide)))
  · exact br_f (fun g => by
      have a := Int32.le_iff_toInt_le.mp z
      have b := Int32.lt_iff_toInt_lt.mp g
      have e0 : (0 : Int32).toInt = 0 := by decide
      rw [nI_toInt (by omega)] at a
      omega) (br_t z (H0 (fun e => by subst e; exact absurd z (nI_nle (by omega) (by omega)))))
  · by_cases e : j = 0
    · subst e
      exact br_f (nI_pos (by omega)) (br_f (nI_ge (by omega) (by omega)) (br_f (by decide) (H1 rfl)))
    · exact br_f (nI_pos (by omega)) (br_f (nI_ge (by omega) (by omega)) (br_t (hv_bit1 j (by omega) e) (H0 (nI_ne0 (by omega) (by omega)))))
/-! numberOf -/
theorem hv_numN {post : Int32 → St2 → Prop} {u : St2} {p : Int32} (hC : C ≤ 16) (hu : hv_N C u) (H : post (-1) u) : wpX_numberOf post u p := by
  obtain ⟨f4, a1, a2, a3, a4, a5, a6, a7, a8, a9, a10, a11, a12, a13, a14, a15, a16, rfl, _⟩ := hu
  unfold wpX_numberOf
  refine hv_has0 hC ?_
  exact br_t rfl H
theorem hv_numD {post : Int32 → St2 → Prop} {u : St2} {p : Int32} (h1 : 1 ≤ C) (hC : C ≤ 16) (hu : hv_D C u) (H : ∀ v, hv_D C v → post (-1) v) : wpX_numberOf post u p := by
  have H' := H u hu
  obtain ⟨f3, f4, a1, a2, a3, a4, a5, a6, a7, a8, a9, a10, a11, a12, a13, a14, a15, a16, rfl, h⟩ := hu
  unfold wpX_numberOf
  refine hv_has1 h1 hC (fun e => ?_) (fun _ => ?_)
  rotate_left 1
  · exact br_t rfl H'
  refine br_f (by decide) ?_
  subst e
  rcases h with rfl | ⟨rfl, h5, h15⟩
  · refine hv_find0 (fun b2 b4 b5 b6 b7 b8 b9 b10 b11 b13 b14 b15 b16 k5 k15 => ⟨hv_in0, ?_⟩)
    rw [hv_c0, k5]
    exact H _ ⟨1, 1, a1, b2, a3, b4, b5, b6, b7, b8, b9, b10, b11, a12, b13, b14, b15, b16, rfl, Or.inr ⟨rfl, k5, k15⟩⟩
  · refine hv_findK ⟨hv_in0, ?_⟩
    rw [hv_c0, h5]
    exact H'
theorem hv_numH {post : Int32 → St2 → Prop} {u : St2} {p : Int32} (h1 : 1 ≤ C) (hC : C ≤ 16) (hu : hv_H C u ∨ hv_K C u) (H1 : p = 0 → ∀ v, hv_K C v → post 1 v) (H0 : p ≠ 0 → post (-1) u) : wpX_numberOf post u p := by
  rcases hu with hu | hu
  · obtain ⟨f4, a1, a2, a3, a4, a5, a6, a7, a8, a9, a10, a11, a12, a13, a14, a15, a16, rfl, h2, h3⟩ := hu
    unfold wpX_numberOf
    refine hv_has1 h1 hC (fun e => ?_) (fun e => ?_)
    rotate_left 1
    · exact br_t rfl (H0 e)
    refine br_f (by decide) ?_
    have H1' := H1 e
    subst e
    refine hv_find1 h2 h3 (fun b2 b4 b5 b6 b7 b8 b9 b10 b11 b13 b14 b15 b16 k5 k4 k13 k15 => ⟨hv_in0, ?_⟩)
    rw [hv_c0, k5]
    exact H1' _ ⟨2, a1, b2, a3, b4, b5, b6, b7, b8, b9, b10, b11, a12, b13, b14, b15, b16, rfl, k5, k4, k13, k15⟩
  · have hu' := hu
    obtain ⟨f4, a1, a2, a3, a4, a5, a6, a7, a8, a9, a10, a11, a12, a13, a14, a15, a16, rfl, h5, h4, h13, h15⟩ := hu
    unfold wpX_numberOf
    refine hv_has1 h1 hC (fun e => ?_) (fun e => ?_)
    rotate_left 1
    · exact br_t rfl (H0 e)
    refine br_f (by decide) ?_
    have H1' := H1 e
    subst e
    refine hv_findK ⟨hv_in0, ?_⟩
    rw [hv_c0, h5]
    exact H1' _ hu'
/-! the constructor, suspect, make, setRoot -/
theorem hv_suspect {post : Int32 → St2 → Prop} {p : Int32} (H : ∀ v, hv_N C v → post (-1) v) : wpX_suspect post (nI C, 0, 0, 0, f4, a1, a2, a3, a4, a5, a6, a7, a8, a9, a10, a11, a12, a13, a14, a15, a16) p := by
  unfold wpX_suspect
  refine hv_find0 (fun b2 b4 b5 b6 b7 b8 b9 b10 b11 b13 b14 b15 b16 _ k15 => ?_)
  · have h := H _ ⟨1, a1, b2, a3, b4, b5, b6, b7, b8, b9, b10, b11, a12, b13, b14, b15, b16, rfl, k15⟩
    exact br_c (fun _ => h) (fun g => br_f g h)
theorem hv_make {post : Int32 → St2 → Prop} {u : St2} {p : Int32} (h1 : 1 ≤ C) (hC : C ≤ 16) (hu : hv_N C u) (H0 : p < 1 ∨ 100 < p → post (-1) u)
    (H1 : ¬ p < 1 → ¬ 100 < p → ∀ (g4 : Int32) (b1 b2 b3 b4 b5 b6 b7 b8 b9 b10 b11 b12 b13 b14 b15 b16 : Nat → Int32), b2 0 = 0 → b3 0 = 0 → post 0 (nI C, 1, 0, 0, g4, b1, b2, b3, b4, b5, b6, b7, b8, b9, b10, b11, b12, b13, b14, b15, b16)) : wpX_make post u p := by
  obtain ⟨f4, a1, a2, a3, a4, a5, a6, a7, a8, a9, a10, a11, a12, a13, a14, a15, a16, rfl, _⟩ := hu
  refine br_c (fun g => H0 (Or.inl g)) (fun g => br_c (fun g2 => ⟨1, br_f (nI_nle (by omega) (by omega)) (hv_has0 hC ?_)⟩) (fun g2 => H0 (Or.inr (Int32.not_le.mp g2))))
  refine br_t rfl ?_
  exact nm_r (e' := 1) (by decide) (nm_r (e' := 0) (by decide) ⟨hv_in _ _ (by decide), fun b1 _ => ⟨hv_in0, fun b2 k2 => ⟨hv_in _ _ (by decide), fun b3 k3 =>
    H1 g (fun t => absurd t (Int32.not_lt.mpr g2)) f4 b1 b2 b3 a4 a5 a6 a7 a8 a9 a10 a11 a12 a13 a14 a15 a16 (hv_at k2 hv_c0 rfl) (hv_at k3 hv_c0 rfl)⟩⟩⟩)
theorem hv_rootN {post : Int32 → St2 → Prop} {u : St2} {p q : Int32} (hC : C ≤ 16) (hu : hv_N C u) (H : post 0 u) : wpX_setRoot post u p q := by
  obtain ⟨f4, a1, a2, a3, a4, a5, a6, a7, a8, a9, a10, a11, a12, a13, a14, a15, a16, rfl, _⟩ := hu
  unfold wpX_setRoot
  refine hv_has0 hC ?_
  exact br_t rfl H
theorem hv_rootM {post : Int32 → St2 → Prop} {p : Int32} (h1 : 1 ≤ C) (hC : C ≤ 16) (H1 : p = 0 → post 1 (nI C, 1, 1, 0, f4, a1, a2, a3, a4, a5, a6, a7, a8, a9, a10, a11, a12, a13, a14, a15, a16)) (H0 : p ≠ 0 → post 0 (nI C, 1, 0, 0, f4, a1, a2, a3, a4, a5, a6, a7, a8, a9, a10, a11, a12, a13, a14, a15, a16)) : wpX_setRoot post (nI C, 1, 0, 0, f4, a1, a2, a3, a4, a5, a6, a7, a8, a9, a10, a11, a12, a13, a14, a15, a16) p 1 := by
  unfold wpX_setRoot
  refine hv_has1 h1 hC (fun e => ?_) (fun e => ?_)
  · exact br_f (by decide) (br_f (by decide) (nm_r (e' := 1) (by rw [e]; decide) (H1 e)))
  · exact br_t rfl (H0 e)
/-! keeper -/
theorem hv_keepN {post : Int32 → St2 → Prop} {u : St2} {p : Int32} (hC : C ≤ 16) (hu : hv_N C u) (H : post (-2) u) : wpX_keeper post u p := by
  have hu' := hu
  obtain ⟨f4, a1, a2, a3, a4, a5, a6, a7, a8, a9, a10, a11, a12, a13, a14, a15, a16, rfl, _⟩ := hu
  unfold wpX_keeper
  refine hv_numN hC hu' ?_
  exact br_f (by decide) H
theorem hv_keepD {post : Int32 → St2 → Prop} {u : St2} {p : Int32} (h1 : 1 ≤ C) (hC : C ≤ 16) (hu : hv_D C u) (H : ∀ v, hv_D C v → post (-2) v) : wpX_keeper post u p := by
  have hu' := hu
  obtain ⟨f3, f4, a1, a2, a3, a4, a5, a6, a7, a8, a9, a10, a11, a12, a13, a14, a15, a16, rfl, _⟩ := hu
  unfold wpX_keeper
  refine hv_numD h1 hC hu' (fun v hv => ?_)
  have H' := H v hv
  obtain ⟨g3, g4, b1, b2, b3, b4, b5, b6, b7, b8, b9, b10, b11, b12, b13, b14, b15, b16, rfl, _⟩ := hv
  exact br_f (by decide) H'
theorem hv_keepH {post : Int32 → St2 → Prop} {u : St2} {p : Int32} (h1 : 1 ≤ C) (hC : C ≤ 16) (hu : hv_H C u) (H1 : p = 0 → ∀ v, hv_K C v → post (-1) v) (H0 : p ≠ 0 → post (-2) u) : wpX_keeper post u p := by
  have hu' := hu
  obtain ⟨f4, a1, a2, a3, a4, a5, a6, a7, a8, a9, a10, a11, a12, a13, a14, a15, a16, rfl, _⟩ := hu
  unfold wpX_keeper
  refine hv_numH h1 hC (Or.inl hu') (fun e v hv => ?_) (fun e => ?_)
  rotate_left 1
  · exact br_f (by decide) (H0 e)
  have H' := H1 e v hv
  obtain ⟨g4, b1, b2, b3, b4, b5, b6, b7, b8, b9, b10, b11, b12, b13, b14, b15, b16, rfl, _, _, h13, _⟩ := hv
  exact br_t (by decide) ⟨hv_in1, br_t h13 H'⟩
/-! common -/
theorem hv_comN {post : Int32 → St2 → Prop} {u : St2} {p q : Int32} (hC : C ≤ 16) (hu : hv_N C u) (H : post (-2) u) : wpX_common post u p q := by
  have hu' := hu
  obtain ⟨f4, a1, a2, a3, a4, a5, a6, a7, a8, a9, a10, a11, a12, a13, a14, a15, a16, rfl, _⟩ := hu
  unfold wpX_common
  refine hv_numN hC hu' ?_
  refine hv_numN hC hu' ?_
  exact br_t (by decide) H
theorem hv_comD {post : Int32 → St2 → Prop} {u : St2} {p q : Int32} (h1 : 1 ≤ C) (hC : C ≤ 16) (hu : hv_D C u) (H : ∀ v, hv_D C v → post (-2) v) : wpX_common post u p q := by
  have hu' := hu
  obtain ⟨f3, f4, a1, a2, a3, a4, a5, a6, a7, a8, a9, a10, a11, a12, a13, a14, a15, a16, rfl, _⟩ := hu
  unfold wpX_common
  refine hv_numD h1 hC hu' (fun v hv => ?_)
  have hv' := hv
  obtain ⟨g3, g4, b1, b2, b3, b4, b5, b6, b7, b8, b9, b10, b11, b12, b13, b14, b15, b16, rfl, _⟩ := hv
  refine hv_numD h1 hC hv' (fun w hw => ?_)
  have H' := H w hw
  obtain ⟨k3, k4, c1, c2, c3, c4, c5, c6, c7, c8, c9, c10, c11, c12, c13, c14, c15, c16, rfl, _⟩ := hw
  exact br_t (by decide) H'
theorem hv_comH {post : Int32 → St2 → Prop} {u : St2} {q : Int32} (h1 : 1 ≤ C) (hC : C ≤ 16) (hu : hv_H C u ∨ hv_K C u) (H1 : q = 0 → ∀ v, hv_K C v → post 0 v) (H0 : q ≠ 0 → ∀ v, hv_K C v → post (-2) v) : wpX_common post u 0 q := by
  have go : ∀ v, hv_K C v → wpX_numberOf (fun r u => match u with
      | (f0, f1, f2, f3, f4, a1, a2, a3, a4, a5, a6, a7, a8, a9, a10, a11, a12, a13, a14, a15, a16) => (((1 : Int32) < 0 → (post (-2) (f0, f1, f2, f3, f4, a1, a2, a3, a4, a5, a6, a7, a8, a9, a10, a11, a12, a13, a14, a15, a16))) ∧ (¬ (1 : Int32) < 0 → (((0 ≤ r → (∃ fu28 : Nat, wX_common_28 post f0 f1 f2 f3 f4 a1 a2 a3 a4 a5 a6 a7 a8 a9 a10 a11 a12 a13 a14 a15 a16 fu28 1 r 0)) ∧ (¬ 0 ≤ r → (post (-2) (f0, f1, f2, f3, f4, a1, a2, a3, a4, a5, a6, a7, a8, a9, a10, a11, a12, a13, a14, a15, a16)))))))) v q := by
    intro v hv
    refine hv_numH h1 hC (Or.inr hv) (fun e w hw => ?_) (fun e => ?_)
    · have H' := H1 e w hw
      obtain ⟨g4, b1, b2, b3, b4, b5, b6, b7, b8, b9, b10, b11, b12, b13, b14, b15, b16, rfl, _, h4, _, _⟩ := hw
      refine br_f (by decide) (br_t (by decide) ⟨1, br_f (by decide) (br_t rfl (br_f (by decide) ⟨hv_in1, ?_⟩))⟩)
      rw [hv_c1, h4]
      exact H'
    · have H' := H0 e v hv
      obtain ⟨g4, b1, b2, b3, b4, b5, b6, b7, b8, b9, b10, b11, b12, b13, b14, b15, b16, rfl, _⟩ := hv
      exact br_f (by decide) (br_f (by decide) H')
  have m : wpX_numberOf (fun r u => match u with
      | (f0, f1, f2, f3, f4, a1, a2, a3, a4, a5, a6, a7, a8, a9, a10, a11, a12, a13, a14, a15, a16) => wpX_numberOf (fun r2 u => match u with
      | (f0, f1, f2, f3, f4, a1, a2, a3, a4, a5, a6, a7, a8, a9, a10, a11, a12, a13, a14, a15, a16) => ((r < 0 → (post (-2) (f0, f1, f2, f3, f4, a1, a2, a3, a4, a5, a6, a7, a8, a9, a10, a11, a12, a13, a14, a15, a16))) ∧ (¬ r < 0 → (((0 ≤ r2 → (∃ fu28 : Nat, wX_common_28 post f0 f1 f2 f3 f4 a1 a2 a3 a4 a5 a6 a7 a8 a9 a10 a11 a12 a13 a14 a15 a16 fu28 r r2 0)) ∧ (¬ 0 ≤ r2 → (post (-2) (f0, f1, f2, f3, f4, a1, a2, a3, a4, a5, a6, a7, a8, a9, a10, a11, a12, a13, a14, a15, a16)))))))) (f0, f1, f2, f3, f4, a1, a2, a3, a4, a5, a6, a7, a8, a9, a10, a11, a12, a13, a14, a15, a16) q) u 0 := by
    refine hv_numH h1 hC hu (fun _ v hv => ?_) (fun e => absurd rfl e)
    have g := go v hv
    obtain ⟨g4, b1, b2, b3, b4, b5, b6, b7, b8, b9, b10, b11, b12, b13, b14, b15, b16, rfl, _⟩ := hv
    exact g
  rcases hu with hu | hu
  · obtain ⟨f4, a1, a2, a3, a4, a5, a6, a7, a8, a9, a10, a11, a12, a13, a14, a15, a16, rfl, _⟩ := hu
    exact m
  · obtain ⟨f4, a1, a2, a3, a4, a5, a6, a7, a8, a9, a10, a11, a12, a13, a14, a15, a16, rfl, _⟩ := hu
    exact m
/-! sweep -/
theorem hv_remove {post : St2 → Prop} {p : Int32} (H : ∀ v, post v) : wpX_remove post (f0, f1, f2, f3, f4, a1, a2, a3, a4, a5, a6, a7, a8, a9, a10, a11, a12, a13, a14, a15, a16) p :=
  fun g1 _ g2 _ => pk_loop (σ := (Nat → Int32) × (Nat → Int32)) (fun n i s => wX_remove_31 post p f0 g1 g2 0 f4 n (nI i) a1 s.1 s.2 a4 a5 a6 a7 a8 a9 a10 a11 a12 a13 a14 a15 a16) (fun _ _ => True) 16 0 (a2, a3) (by omega) trivial
    (fun n s _ => pk_le 16 16 (fun _ => H _) (fun z => absurd z (by omega)))
    (fun n i s hi _ hw => pk_le 16 i (fun z => absurd z (by omega)) (fun _ => br_c
      (fun _ => ⟨pk_in i 17 (by omega), pk_in i 17 (by omega), fun b2 _ => ⟨pk_in i 16 (by omega), pk_in i 16 (by omega), fun b3 _ => nm_r (nI_1 i) (hw (b2, b3) trivial)⟩⟩)
      (fun _ => ⟨pk_in i 17 (by omega), fun b2 _ => ⟨pk_in i 16 (by omega), fun b3 _ => nm_r (nI_1 i) (hw (b2, b3) trivial)⟩⟩)))
theorem hv_sw0 {post : Int32 → St2 → Prop} (H : ∀ v, post 0 v) : ∃ n, wX_sweep_22 post 0 f0 f1 f2 f3 f4 a1 a2 a3 a4 a5 a6 a7 a8 a9 a10 a11 a12 a13 a14 a15 a16 n 0 0 :=
  pk_loop (σ := Unit) (fun n i _ => wX_sweep_22 post 0 f0 f1 f2 f3 f4 a1 a2 a3 a4 a5 a6 a7 a8 a9 a10 a11 a12 a13 a14 a15 a16 n 0 (nI i)) (fun _ _ => True) 16 0 () (by omega) trivial
    (fun n _ _ => pk_le 16 16 (fun _ => hv_remove (fun v => H v)) (fun z => absurd z (by omega)))
    (fun n i _ hi _ hw => pk_le 16 i (fun z => absurd z (by omega)) (fun _ => nm_r (e' := 0) (by rw [hv_bit0 i hi]; decide) (nm_r (nI_1 i) (hw () trivial))))
theorem hv_sw1 {post : Int32 → St2 → Prop} (H : ∀ v, post 1 v) : ∃ n, wX_sweep_22 post 1 f0 f1 f2 f3 f4 a1 a2 a3 a4 a5 a6 a7 a8 a9 a10 a11 a12 a13 a14 a15 a16 n 0 0 := by
  obtain ⟨n, hn⟩ := pk_loop (σ := Unit) (fun n i _ => wX_sweep_22 post 1 f0 f1 f2 f3 f4 a1 a2 a3 a4 a5 a6 a7 a8 a9 a10 a11 a12 a13 a14 a15 a16 n 1 (nI i)) (fun i _ => 1 ≤ i) 16 1 () (by omega) (by omega)
    (fun n _ _ => pk_le 16 16 (fun _ => hv_remove (fun v => H v)) (fun z => absurd z (by omega)))
    (fun n i _ hi h hw => pk_le 16 i (fun z => absurd z (by omega)) (fun _ => nm_r (e' := 1) (by rw [hv_bit1 i hi (by omega)]; decide) (nm_r (nI_1 i) (hw () (by omega)))))
  exact ⟨n + 1, br_f (by decide) (nm_r (e' := 1) (by decide) (nm_r (e' := 1) (by decide) hn))⟩
theorem hv_sweepN {post : Int32 → St2 → Prop} {u : St2} (hu : hv_N C u) (H : ∀ v, post 0 v) : wpX_sweep post u := by
  obtain ⟨f4, a1, a2, a3, a4, a5, a6, a7, a8, a9, a10, a11, a12, a13, a14, a15, a16, rfl, h15⟩ := hu
  unfold wpX_sweep
  refine hv_findK ?_
  exact nm_r (e' := 0) (by rw [h15]; decide) (hv_sw0 H)
theorem hv_sweepD {post : Int32 → St2 → Prop} {u : St2} (hu : hv_D C u) (H : ∀ v, post 1 v) : wpX_sweep post u := by
  obtain ⟨f3, f4, a1, a2, a3, a4, a5, a6, a7, a8, a9, a10, a11, a12, a13, a14, a15, a16, rfl, h⟩ := hu
  unfold wpX_sweep
  rcases h with rfl | ⟨rfl, _, h15⟩
  · refine hv_find0 (fun b2 b4 b5 b6 b7 b8 b9 b10 b11 b13 b14 b15 b16 _ k15 => ?_)
    exact nm_r (e' := 1) (by rw [k15]; decide) (hv_sw1 H)
  · refine hv_findK ?_
    exact nm_r (e' := 1) (by rw [h15]; decide) (hv_sw1 H)
theorem hv_sweepK {post : Int32 → St2 → Prop} {u : St2} (hu : hv_K C u) (H : ∀ v, post 0 v) : wpX_sweep post u := by
  obtain ⟨f4, a1, a2, a3, a4, a5, a6, a7, a8, a9, a10, a11, a12, a13, a14, a15, a16, rfl, _, _, _, h15⟩ := hu
  unfold wpX_sweep
  refine hv_findK ?_
  exact nm_r (e' := 0) (by rw [h15]; decide) (hv_sw0 H)
end
end
section
/-! the law -/
theorem hv_init {post : St2 → Prop} {p : Int32} (H : ∀ C : Nat, 1 ≤ C → C ≤ 16 → post (nI C, 0, 0, 0, 0, (fun _ => 0), (fun _ => 0), (fun _ => 0), (fun _ => 0), (fun _ => 0), (fun _ => 0), (fun _ => 0), (fun _ => 0), (fun _ => 0), (fun _ => 0), (fun _ => 0), (fun _ => 0), (fun _ => 0), (fun _ => 0), (fun _ => 0), (fun _ => 0))) : wpX_init post 16 270 (0, 0, 0, 0, 0) p :=
  ⟨by decide, by decide, by decide, by decide, by decide, by decide, by decide, by decide, by decide, by decide, by decide, by decide, by decide, by decide, by decide, by decide, by decide, by decide, by decide, by decide, by decide, by decide, by decide, by decide, by decide, by decide, by decide, by decide, by decide, by decide, by decide, by decide, br_c (fun g => br_c (fun g2 => by
      have a := Int32.le_iff_toInt_le.mp g
      have b := Int32.le_iff_toInt_le.mp g2
      have e1 : (1 : Int32).toInt = 1 := by decide
      have e16 : (16 : Int32).toInt = 16 := by decide
      have e0 : (0 : Int32).toInt = 0 := by decide
      rcases pk_ix p (n := 17) (by omega) with z | z | ⟨j, hj, rfl⟩
      · have := Int32.lt_iff_toInt_lt.mp z
        omega
      · have := Int32.le_iff_toInt_le.mp z
        rw [nI_toInt (by omega)] at this
        omega
      · rw [nI_toInt (by omega)] at a
        exact H j (by omega) (by omega)) (fun _ => H 16 (by omega) (by omega))) (fun _ => H 1 (by omega) (by omega))⟩
section
variable {post : Int32 → St0 → Prop} {mc ms kc ks : Nat} {x y : Int32}
theorem hv_endN (H : post 1 ()) : wL_lawOf_74 post mc ms x y (-1) (-1) 0 (-2) (-2) 0 kc ks :=
  br_t rfl (br_t rfl (br_t rfl (br_t rfl (br_t rfl (br_t rfl (br_t rfl (br_t rfl (br_t rfl (br_t rfl (br_t rfl H))))))))))
theorem hv_endD (hx : x ≠ 0) (H : post 1 ()) : wL_lawOf_75 post mc ms x y (-1) 0 0 (-2) (-2) 1 1 kc ks :=
  br_f (by decide) (br_f hx (br_t rfl (br_t rfl (br_t rfl (br_f (by decide) (br_t rfl (br_t rfl (br_t rfl (br_t rfl (br_f (by decide) (br_t rfl (br_t rfl H))))))))))))
theorem hv_endH1 (H : post 1 ()) : wL_lawOf_75 post mc ms 0 0 (-1) 0 1 (-1) 0 0 1 kc ks :=
  br_f (by decide) (br_t rfl (br_f (by decide) (br_t rfl (br_f (by decide) (br_t rfl (br_t rfl (br_f (by decide) (br_t rfl (br_t rfl (br_t rfl (br_t rfl (br_f (by decide) (br_f (by decide) (br_t rfl H))))))))))))))
theorem hv_endH0 (hy : y ≠ 0) (H : post 1 ()) : wL_lawOf_75 post mc ms 0 y (-1) 0 1 (-2) (-2) 0 1 kc ks :=
  br_f (by decide) (br_t rfl (br_f (by decide) (br_f hy (br_f (by decide) (br_f hy (br_t rfl (br_f (by decide) (br_t rfl (br_t rfl (br_t rfl (br_t rfl (br_f (by decide) (br_f (by decide) (br_t rfl H))))))))))))))
theorem hv_law (H : post 1 ()) (c s : Int32) : wpL_lawOf post 112 1792 () c s x y := by
  refine ⟨by decide, by decide, 16, 270, by decide, by decide, hv_init (fun C h1 hC => ?_)⟩
  refine hv_suspect (fun v hv => ?_)
  have hN := hv
  obtain ⟨f4, a1, a2, a3, a4, a5, a6, a7, a8, a9, a10, a11, a12, a13, a14, a15, a16, rfl, _⟩ := hv
  refine hv_make h1 hC hN (fun g => ?_) (fun g g' g4 b1 b2 b3 b4 b5 b6 b7 b8 b9 b10 b11 b12 b13 b14 b15 b16 k2 k3 => ?_)
  · refine hv_rootN hC hN (hv_keepN hC hN (hv_comN hC hN (hv_sweepN hN (fun v => ?_))))
    obtain ⟨k0, k1, k2, k3, k4, c1, c2, c3, c4, c5, c6, c7, c8, c9, c10, c11, c12, c13, c14, c15, c16⟩ := v
    exact br_c (fun _ => hv_endN H) (fun t => br_t (g.resolve_left t) (hv_endN H))
  · refine hv_rootM h1 hC (fun e => ?_) (fun e => ?_)
    · subst e
      have hH : hv_H C (nI C, 1, 1, 0, g4, b1, b2, b3, b4, b5, b6, b7, b8, b9, b10, b11, b12, b13, b14, b15, b16) := ⟨g4, b1, b2, b3, b4, b5, b6, b7, b8, b9, b10, b11, b12, b13, b14, b15, b16, rfl, k2, k3⟩
      refine hv_keepH h1 hC hH (fun e v hv => ?_) (fun e => ?_)
      · subst e
        have hK := hv
        obtain ⟨h4, d1, d2, d3, d4, d5, d6, d7, d8, d9, d10, d11, d12, d13, d14, d15, d16, rfl, _⟩ := hv
        refine hv_comH h1 hC (Or.inr hK) (fun _ w hw => ?_) (fun e => absurd rfl e)
        have hK2 := hw
        obtain ⟨i4, e1, e2, e3, e4, e5, e6, e7, e8, e9, e10, e11, e12, e13, e14, e15, e16, rfl, _⟩ := hw
        refine hv_sweepK hK2 (fun v => ?_)
        obtain ⟨k0, k1, k2, k3, k4, c1, c2, c3, c4, c5, c6, c7, c8, c9, c10, c11, c12, c13, c14, c15, c16⟩ := v
        exact br_f g (br_f g' (hv_endH1 H))
      · refine hv_comH h1 hC (Or.inl hH) (fun e' => absurd e' e) (fun _ w hw => ?_)
        have hK2 := hw
        obtain ⟨i4, e1, e2, e3, e4, e5, e6, e7, e8, e9, e10, e11, e12, e13, e14, e15, e16, rfl, _⟩ := hw
        refine hv_sweepK hK2 (fun v => ?_)
        obtain ⟨k0, k1, k2, k3, k4, c1, c2, c3, c4, c5, c6, c7, c8, c9, c10, c11, c12, c13, c14, c15, c16⟩ := v
        exact br_f g (br_f g' (hv_endH0 e H))
    · have hD : hv_D C (nI C, 1, 0, 0, g4, b1, b2, b3, b4, b5, b6, b7, b8, b9, b10, b11, b12, b13, b14, b15, b16) := ⟨0, g4, b1, b2, b3, b4, b5, b6, b7, b8, b9, b10, b11, b12, b13, b14, b15, b16, rfl, Or.inl rfl⟩
      refine hv_keepD h1 hC hD (fun v hv => ?_)
      have hD2 := hv
      obtain ⟨h3, h4, d1, d2, d3, d4, d5, d6, d7, d8, d9, d10, d11, d12, d13, d14, d15, d16, rfl, _⟩ := hv
      refine hv_comD h1 hC hD2 (fun w hw => ?_)
      have hD3 := hw
      obtain ⟨i3, i4, e1, e2, e3, e4, e5, e6, e7, e8, e9, e10, e11, e12, e13, e14, e15, e16, rfl, _⟩ := hw
      refine hv_sweepD hD3 (fun v => ?_)
      obtain ⟨k0, k1, k2, k3, k4, c1, c2, c3, c4, c5, c6, c7, c8, c9, c10, c11, c12, c13, c14, c15, c16⟩ := v
      exact br_f g (br_f g' (hv_endD e H))
end
theorem hv_cell {post : Int32 → Prop} {L : Nat} {xs : Nat → Int32} {p : Int32} (j : Nat) (hj : j < 4) (hL : L ≤ 4) (hp : p = nI j) (H : ∀ r, post r) : wpL_cellAt post L xs () p :=
  pk_le L j (fun _ => H 0) (fun z => ⟨pk_in j L z hp, H _⟩) (hy := hp)
end
section
theorem i_vc (xs : Nat → Int32) (L : Nat) (hL : L ≤ 4) : wpL_law (fun r => r = 1) L xs :=
  hv_cell 0 (by omega) hL rfl (fun r1 => hv_cell 1 (by omega) hL rfl (fun r2 => hv_cell 2 (by omega) hL rfl (fun r3 => hv_cell 3 (by omega) hL rfl (fun r4 => ⟨112, 1792, by omega, by omega, hv_law rfl r1 r2⟩))))
end

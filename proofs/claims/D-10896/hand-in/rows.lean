section
/-! the rules' side: has, enter, pair, word, say -/
abbrev pr_hs (R : Int32) (k : Nat) : Prop := ¬ ((R >>> (nI k &&& 31)) &&& 1) = 0
abbrev pr_fm (x : Int32) : Prop := ¬ x < 0 ∧ ¬ 3 ≤ (x &&& 3) ∧ ¬ 3 ≤ ((x >>> ((2 : Int32) &&& 31)) &&& 3) ∧ ¬ 3 ≤ (x >>> ((4 : Int32) &&& 31))
abbrev pr_pd (c : Int32) : Prop := ¬ c < 0 ∧ c ≤ 50
abbrev pr_iw (w : Int32) : Prop := ¬ w < 0 ∧ ¬ 2 < w
abbrev pr_is (a : Int32) : Prop := ¬ a < 0 ∧ ¬ 3 ≤ a
abbrev pr_wd (a w c : Int32) : Prop := pr_is a ∧ pr_iw w ∧ pr_pd c
/-! plain ints -/
theorem pr_b8 : ∀ n, n < 128 → (nI n).toInt8.toInt32 = nI n := by decide +kernel
theorem pr_s16 : ∀ n, n < 128 → (nI n).toInt16.toInt32 = nI n := by decide +kernel
theorem pr_ix3 {a : Int32} (h : pr_is a) : ∃ j : Nat, j < 3 ∧ a = nI j := by
  rcases pk_ix a (n := 3) (by decide) with z | z | z
  · exact absurd z h.1
  · exact absurd z h.2
  · exact z
theorem pr_23 (x : Int32) : 2 < x ↔ 3 ≤ x := by
  rw [Int32.lt_iff_toInt_lt, Int32.le_iff_toInt_le]
  have h2 : (2 : Int32).toInt = 2 := by decide
  have h3 : (3 : Int32).toInt = 3 := by decide
  omega
theorem pr_50 (x : Int32) : x ≤ 50 ↔ ¬ 50 < x := by
  rw [Int32.lt_iff_toInt_lt, Int32.le_iff_toInt_le]
  omega
theorem pr_pdN {c : Int32} (h : pr_pd c) : ∃ j : Nat, j ≤ 50 ∧ c = nI j := nI_of2 (M := 50) (n := 50) (by decide) h.1 h.2
theorem pr_pd8 {c : Int32} (h : pr_pd c) : c.toInt8.toInt32 = c := by
  obtain ⟨j, hj, rfl⟩ := pr_pdN h
  exact pr_b8 j (by omega)
theorem pr_pdFar {c : Int32} (h : pr_pd c) : ¬ 100000 ≤ c := by
  obtain ⟨j, hj, rfl⟩ := pr_pdN h
  exact nI_ge (b := 100000) (by omega) (by decide)
theorem pr_fmN {x : Int32} (h : pr_fm x) : ∃ n : Nat, n < 48 ∧ x = nI n ∧ x >>> ((4 : Int32) &&& 31) = nI (n / 16) := by
  obtain ⟨n, hn, rfl⟩ := nI_of h.1
  have e : nI n >>> ((4 : Int32) &&& 31) = nI (n / 2 ^ 4) := pk_shrN hn _ 4 (by decide)
  have h4 := h.2.2.2
  rw [e] at h4
  have l : n / 2 ^ 4 < 3 := by
    rcases Nat.lt_or_ge (n / 2 ^ 4) 3 with z | z
    · exact z
    · exact absurd (nI_le z (by omega)) h4
  exact ⟨n, by omega, rfl, e⟩
theorem pr_63 {x : Int32} (h : pr_fm x) : ¬ 63 < x := by
  obtain ⟨n, hn, rfl, _⟩ := pr_fmN h
  exact nI_nlt (a := 63) (by omega) (by decide)
theorem pr_sec {x : Int32} (h : pr_fm x) : (x >>> ((4 : Int32) &&& 31)).toInt8.toInt32 ≠ 3 := by
  obtain ⟨n, hn, _, e⟩ := pr_fmN h
  rw [e, pr_b8 _ (by omega)]
  exact fun z => absurd ((nI_eq (a := n / 16) (b := 3) (by omega) (by decide)).mp z) (by omega)
/-! the methods -/
section
variable {R sz bg ak nc nm mn mm : Int32} {a1 a2 a3 a4 a5 a6 a7 a8 a9 a10 a11 a12 a13 : Nat → Int32}
theorem pr_has0 {post : Int32 → Prop} (k : Nat) (hk : k < 8) (h : ((R >>> (nI k &&& 31)) &&& 1) = 0) (H : post 0) : wpX_has post (R, sz, bg, ak, nc, nm, mn, mm, a1, a2, a3, a4, a5, a6, a7, a8, a9, a10, a11, a12, a13) (nI k) :=
  br_f (nI_pos (by omega)) (br_f (nI_ge (b := 8) hk (by decide)) (br_t h H))
theorem pr_has1 {post : Int32 → Prop} (k : Nat) (hk : k < 8) (h : pr_hs R k) (H : post 1) : wpX_has post (R, sz, bg, ak, nc, nm, mn, mm, a1, a2, a3, a4, a5, a6, a7, a8, a9, a10, a11, a12, a13) (nI k) :=
  br_f (nI_pos (by omega)) (br_f (nI_ge (b := 8) hk (by decide)) (br_f h H))
theorem pr_enter0 {post : Int32 → St2 → Prop} {p0 p1 p2 p3 : Int32} (H : post 0 (1, sz, 0, ak, nc, nm, mn, mm, upd a1 0 p0.toInt8.toInt32, upd a2 0 p1.toInt8.toInt32, upd a3 0 p2.toInt8.toInt32, upd a4 0 p3.toInt8.toInt32, a5, a6, a7, a8, a9, a10, a11, a12, a13)) : wpX_enter post (0, sz, bg, ak, nc, nm, mn, mm, a1, a2, a3, a4, a5, a6, a7, a8, a9, a10, a11, a12, a13) p0 p1 p2 p3 :=
  ⟨1, br_f (by decide) (pr_has0 0 (by decide) (by decide) (br_t rfl (nm_r (e' := 1) (by decide) ⟨pk_in 0 8 (by decide), nm_e ⟨pk_in 0 8 (by decide), nm_e ⟨pk_in 0 8 (by decide), nm_e ⟨pk_in 0 8 (by decide), nm_e H⟩⟩⟩⟩)))⟩
theorem pr_enter1 {post : Int32 → St2 → Prop} {p0 p1 p2 p3 : Int32} (H : post 1 (3, sz, 0, ak, nc, nm, mn, mm, upd a1 1 p0.toInt8.toInt32, upd a2 1 p1.toInt8.toInt32, upd a3 1 p2.toInt8.toInt32, upd a4 1 p3.toInt8.toInt32, a5, a6, a7, a8, a9, a10, a11, a12, a13)) : wpX_enter post (1, sz, bg, ak, nc, nm, mn, mm, a1, a2, a3, a4, a5, a6, a7, a8, a9, a10, a11, a12, a13) p0 p1 p2 p3 :=
  ⟨2, br_f (by decide) (pr_has1 0 (by decide) (by decide) (br_f (by decide) (nm_r (e' := nI 1) (by decide) (br_f (by decide) (pr_has0 1 (by decide) (by decide) (br_t rfl (nm_r (e' := 3) (by decide) ⟨pk_in 1 8 (by decide), nm_e ⟨pk_in 1 8 (by decide), nm_e ⟨pk_in 1 8 (by decide), nm_e ⟨pk_in 1 8 (by decide), nm_e H⟩⟩⟩⟩)))))))⟩
theorem pr_pair {post : Int32 → St2 → Prop} {x c : Int32} (hn : ¬ (pr_fm x ∧ pr_pd c) → post (-1) (0, sz, bg, ak, nc, nm, mn, mm, a1, a2, a3, a4, a5, a6, a7, a8, a9, a10, a11, a12, a13))
    (hy : pr_fm x → pr_pd c → post 0 (1, sz, 0, ak, nc, nm, mn, mm, upd a1 0 (x &&& 3).toInt8.toInt32, upd a2 0 ((x >>> ((2 : Int32) &&& 31)) &&& 3).toInt8.toInt32, upd a3 0 (x >>> ((4 : Int32) &&& 31)).toInt8.toInt32, upd a4 0 c.toInt8.toInt32, a5, a6, a7, a8, a9, a10, a11, a12, a13)) : wpX_pair post (0, sz, bg, ak, nc, nm, mn, mm, a1, a2, a3, a4, a5, a6, a7, a8, a9, a10, a11, a12, a13) x c := by
  have B : ¬ pr_fm x → wX_pair_27 post x c 0 sz bg ak nc nm mn mm a1 a2 a3 a4 a5 a6 a7 a8 a9 a10 a11 a12 a13 := fun h => br_c (fun _ => hn (fun t => h t.1)) (fun _ => br_t rfl (hn (fun t => h t.1)))
  exact br_c (fun h => B (fun t => t.2.1 h)) (fun h1 => br_c (fun h => B (fun t => t.2.2.1 h)) (fun h2 => br_c (fun h => B (fun t => t.2.2.2 h)) (fun h3 =>
    br_c (fun h => hn (fun t => t.1.1 h)) (fun h0 => br_f (by decide) (br_c (fun h => hn (fun t => t.2.1 h)) (fun h4 => br_c (fun h5 => pr_enter0 (hy ⟨h0, h1, h2, h3⟩ ⟨h4, h5⟩)) (fun h => hn (fun t => h t.2.2))))))))
theorem pr_word0 {post : Int32 → St2 → Prop} {a w c : Int32} (hn : ¬ pr_wd a w c → post (-1) (0, sz, bg, ak, nc, nm, mn, mm, a1, a2, a3, a4, a5, a6, a7, a8, a9, a10, a11, a12, a13))
    (hy : pr_wd a w c → post 0 (1, sz, 0, ak, nc, nm, mn, mm, upd a1 0 a.toInt8.toInt32, upd a2 0 w.toInt8.toInt32, upd a3 0 (3 : Int32).toInt8.toInt32, upd a4 0 c.toInt8.toInt32, a5, a6, a7, a8, a9, a10, a11, a12, a13)) : wpX_word post (0, sz, bg, ak, nc, nm, mn, mm, a1, a2, a3, a4, a5, a6, a7, a8, a9, a10, a11, a12, a13) a w c :=
  br_c (fun h => hn (fun t => t.1.1 h)) (fun h1 => br_c (fun h => hn (fun t => t.1.2 h)) (fun h2 => br_c (fun h => hn (fun t => t.2.1.1 h)) (fun h3 => br_c (fun h => hn (fun t => t.2.1.2 h)) (fun h4 =>
    br_c (fun h => hn (fun t => t.2.2.1 h)) (fun h5 => br_c (fun h6 => pr_enter0 (hy ⟨⟨h1, h2⟩, ⟨h3, h4⟩, ⟨h5, h6⟩⟩)) (fun h => hn (fun t => h t.2.2.2)))))))
theorem pr_word1 {post : Int32 → St2 → Prop} {a w c : Int32} (hn : ¬ pr_wd a w c → post (-1) (1, sz, bg, ak, nc, nm, mn, mm, a1, a2, a3, a4, a5, a6, a7, a8, a9, a10, a11, a12, a13))
    (hy : pr_wd a w c → post 1 (3, sz, 0, ak, nc, nm, mn, mm, upd a1 1 a.toInt8.toInt32, upd a2 1 w.toInt8.toInt32, upd a3 1 (3 : Int32).toInt8.toInt32, upd a4 1 c.toInt8.toInt32, a5, a6, a7, a8, a9, a10, a11, a12, a13)) : wpX_word post (1, sz, bg, ak, nc, nm, mn, mm, a1, a2, a3, a4, a5, a6, a7, a8, a9, a10, a11, a12, a13) a w c :=
  br_c (fun h => hn (fun t => t.1.1 h)) (fun h1 => br_c (fun h => hn (fun t => t.1.2 h)) (fun h2 => br_c (fun h => hn (fun t => t.2.1.1 h)) (fun h3 => br_c (fun h => hn (fun t => t.2.1.2 h)) (fun h4 =>
    br_c (fun h => hn (fun t => t.2.2.1 h)) (fun h5 => br_c (fun h6 => pr_enter1 (hy ⟨⟨h1, h2⟩, ⟨h3, h4⟩, ⟨h5, h6⟩⟩)) (fun h => hn (fun t => h t.2.2.2)))))))
theorem pr_say {post : Int32 → St2 → Prop} {w : Int32} (hn : ¬ pr_iw w → post 0 (R, 0, bg, ak, nc, nm, mn, mm, a1, a2, a3, a4, a5, a6, a7, a8, a9, a10, a11, a12, a13))
    (hy : pr_iw w → post 1 (R, 1, 0, ak, nc, nm, mn, mm, a1, a2, a3, a4, upd a5 0 w.toInt8.toInt32, a6, a7, a8, a9, a10, a11, a12, a13)) : wpX_say post (R, 0, bg, ak, nc, nm, mn, mm, a1, a2, a3, a4, a5, a6, a7, a8, a9, a10, a11, a12, a13) w :=
  br_c (fun h => hn (fun t => t.1 h)) (fun h1 => br_c (fun h => hn (fun t => t.2 h)) (fun h2 => br_t (by decide) ⟨pk_in 0 5 (by decide), nm_e (nm_r (e' := 1) (by decide) (hy ⟨h1, h2⟩))⟩))
end
end
section
/-! a node's trees: begin, ask, used, consider, goOn -/
theorem pr_fill {s : Nat → Int32} {i : Nat} (hi : i < 108) (h : ∀ j, j < i → s j = 0) : ∀ j, j < i + 1 → upd s (nI i).toNatClampNeg 0 j = 0 := by
  intro j hj
  rw [nI_clamp (by omega)]
  by_cases e : j = i
  · rw [e, pk_us]
  · rw [pk_un e]
    exact h j (by omega)
theorem pr_cell0 (nd : Nat) : nI nd * 8 + 0 = nI (nd * 8) := by
  rw [← nI_0, show (8 : Int32) = nI 8 from rfl, pk_mul, nI_add, Nat.add_zero]
section
variable {R sz bg ak nc nm mn mm : Int32} {a1 a2 a3 a4 a5 a6 a7 a8 a9 a10 a11 a12 a13 : Nat → Int32}
theorem pr_begin {post : St2 → Prop} (H : ∀ b6 b7 : Nat → Int32, (∀ j, j < 108 → b6 j = 0) → (∀ j, j < 108 → b7 j = 0) → post (R, sz, 1, ak, nc, nm, mn, mm, a1, a2, a3, a4, a5, b6, b7, a8, a9, a10, a11, a12, a13)) : wpX_begin post (R, sz, 0, ak, nc, nm, mn, mm, a1, a2, a3, a4, a5, a6, a7, a8, a9, a10, a11, a12, a13) :=
  br_t rfl (pk_loop (σ := (Nat → Int32) × (Nat → Int32)) (fun n i s => wX_begin_15 post R sz 1 ak nc nm mn mm n (nI i) a1 a2 a3 a4 a5 s.1 s.2 a8 a9 a10 a11 a12 a13) (fun i s => (∀ j, j < i → s.1 j = 0) ∧ (∀ j, j < i → s.2 j = 0)) 108 0 (a6, a7) (by omega) ⟨fun j hj => absurd hj (by omega), fun j hj => absurd hj (by omega)⟩
    (fun n s h => pk_le 108 108 (fun _ => H s.1 s.2 h.1 h.2) (fun z => absurd z (by omega)))
    (fun n i s hi h hw => pk_le 108 i (fun z => absurd z (by omega)) (fun _ => ⟨pk_in i 108 hi, nm_e ⟨pk_in i 108 hi, nm_e (nm_r (nI_1 i) (hw (upd s.1 (nI i).toNatClampNeg 0, upd s.2 (nI i).toNatClampNeg 0) ⟨pr_fill hi h.1, pr_fill hi h.2⟩))⟩⟩)))
theorem pr_ask {post : St2 → Prop} {p0 p1 : Int32} (H : post (R, sz, bg, 1, nc, nm, mn, mm, a1, a2, a3, a4, a5, a6, a7, a8, a9, upd a10 0 p0.toInt8.toInt32, upd a11 0 p1.toInt8.toInt32, a12, a13)) : wpX_ask post (R, sz, bg, 0, nc, nm, mn, mm, a1, a2, a3, a4, a5, a6, a7, a8, a9, a10, a11, a12, a13) p0 p1 :=
  br_f (by decide) ⟨pk_in 0 8 (by decide), nm_e ⟨pk_in 0 8 (by decide), nm_e (nm_r (e' := 1) (by decide) H)⟩⟩
theorem pr_used0 {post : Int32 → Prop} {nd : Nat} {m : Int32} (hnd : nd < 108) (h6 : a6 nd = 0) (H : post 0) : wpX_used post (R, sz, bg, ak, nc, nm, mn, mm, a1, a2, a3, a4, a5, a6, a7, a8, a9, a10, a11, a12, a13) (nI nd) m :=
  ⟨1, pk_in nd 108 hnd, br_t (by rw [nI_clamp (by omega), h6]; decide) H⟩
theorem pr_used1 {post : Int32 → Prop} {nd : Nat} {m : Int32} (hnd : nd < 108) (h6 : a6 nd = 1) (h9 : a9 (nd * 8) = m) (H : post 1) : wpX_used post (R, sz, bg, ak, nc, nm, mn, mm, a1, a2, a3, a4, a5, a6, a7, a8, a9, a10, a11, a12, a13) (nI nd) m :=
  ⟨2, pk_in nd 108 hnd, br_f (by rw [nI_clamp (by omega), h6]; decide) ⟨pk_in (nd * 8) 864 (by omega) (pr_cell0 nd), br_t (by rw [pr_cell0, nI_clamp (by omega), h9])
    (nm_r (e' := 1) (by decide) (nm_r (e' := 1) (by decide) ⟨pk_in nd 108 hnd, br_t (by rw [nI_clamp (by omega), h6]; decide) H⟩))⟩⟩
theorem pr_consN {post : St2 → Prop} {nd k : Nat} (hk : k < 8) (h3 : a3 k ≠ 3) (H : post (R, sz, bg, ak, nc, nm, mn, mm, a1, a2, a3, a4, a5, a6, a7, a8, a9, a10, a11, a12, a13)) : wpX_consider post (R, sz, bg, ak, nc, nm, mn, mm, a1, a2, a3, a4, a5, a6, a7, a8, a9, a10, a11, a12, a13) (nI nd) (nI k) 0 1 :=
  ⟨pk_in k 8 hk, br_f (by rw [nI_clamp (by omega)]; exact h3) (nm_r (e' := 1) (by decide) ⟨1, br_t (by decide) H⟩)⟩
theorem pr_consW0 {post : St2 → Prop} {nd k : Nat} {c : Int32} (hnd : nd < 108) (hk : k < 8) (h3 : a3 k = 3) (h5 : a5 0 = a2 k) (h6 : a6 nd = 0) (h4 : a4 k = c) (hc : ¬ nc ≤ c) (H : post (R, sz, bg, ak, c, nI k, mn, mm, a1, a2, a3, a4, a5, a6, a7, a8, a9, a10, a11, a12, a13)) : wpX_consider post (R, sz, bg, ak, nc, nm, mn, mm, a1, a2, a3, a4, a5, a6, a7, a8, a9, a10, a11, a12, a13) (nI nd) (nI k) 0 1 := by
  have e : (nI k).toNatClampNeg = k := nI_clamp (by omega)
  refine ⟨pk_in k 8 hk, br_t (by rw [e]; exact h3) (br_t (by decide) ⟨pk_in 0 5 (by decide), pk_in k 8 hk, br_t (by rw [e]; exact h5) (br_f (by decide) (pr_used0 hnd h6 (br_t rfl ⟨pk_in k 8 hk, ?_⟩)))⟩)⟩
  rw [e, h4]
  exact br_f hc H
theorem pr_consW1 {post : St2 → Prop} {nd k : Nat} (hnd : nd < 108) (hk : k < 8) (h3 : a3 k = 3) (h5 : a5 0 = a2 k) (h6 : a6 nd = 1) (h9 : a9 (nd * 8) = nI k) (H : post (R, sz, bg, ak, nc, nm, mn, mm, a1, a2, a3, a4, a5, a6, a7, a8, a9, a10, a11, a12, a13)) : wpX_consider post (R, sz, bg, ak, nc, nm, mn, mm, a1, a2, a3, a4, a5, a6, a7, a8, a9, a10, a11, a12, a13) (nI nd) (nI k) 0 1 := by
  have e : (nI k).toNatClampNeg = k := nI_clamp (by omega)
  exact ⟨pk_in k 8 hk, br_t (by rw [e]; exact h3) (br_t (by decide) ⟨pk_in 0 5 (by decide), pk_in k 8 hk, br_t (by rw [e]; exact h5) (br_f (by decide) (pr_used1 hnd h6 h9 (br_f (by decide) H)))⟩)⟩
/-- the rules' loop where the word's rule q stands and its tree isn't made yet: its price is found -/
theorem pr_goW {post : St2 → Prop} {nd q : Nat} {a c : Int32} (hnd : nd < 108) (hq : q < 8) (hs : pr_hs R q) (h1 : a1 q = a) (h3 : a3 q = 3) (h5 : a5 0 = a2 q) (h4 : a4 q = c) (hc : ¬ 100000 ≤ c) (ho : ∀ k, k < 8 → pr_hs R k → k ≠ q → a3 k ≠ 3) (h6 : a6 nd = 0)
    (H : wX_goOn_81 post (nI nd) R sz bg ak c (nI q) (-1) mm a1 a2 a3 a4 a5 a6 a7 a8 a9 a10 a11 a12 a13) : ∃ fu, wX_goOn_31 post (nI nd) a 0 1 fu 0 R sz bg ak 100000 nm (-1) mm a1 a2 a3 a4 a5 a6 a7 a8 a9 a10 a11 a12 a13 :=
  pk_loop (σ := Int32 × Int32) (fun n i s => wX_goOn_31 post (nI nd) a 0 1 n (nI i) R sz bg ak s.1 s.2 (-1) mm a1 a2 a3 a4 a5 a6 a7 a8 a9 a10 a11 a12 a13) (fun i s => (i ≤ q → s.1 = 100000) ∧ (q < i → s = (c, nI q))) 8 0 (100000, nm) (by omega) ⟨fun _ => rfl, fun z => absurd z (by omega)⟩
    (fun n s h => pk_le 8 8 (fun _ => by rw [h.2 hq]; exact H) (fun z => absurd z (by omega)))
    (fun n i s hi h hw => pk_le 8 i (fun z => absurd z (by omega)) (fun _ => br_f (by decide) (by
      have K : i ≠ q → wX_goOn_31 post (nI nd) a 0 1 n (nI (i + 1)) R sz bg ak s.1 s.2 (-1) mm a1 a2 a3 a4 a5 a6 a7 a8 a9 a10 a11 a12 a13 := fun z => hw s ⟨fun t => h.1 (by omega), fun t => h.2 (by omega)⟩
      by_cases g : pr_hs R i
      · refine pr_has1 i hi g (br_f (by decide) ⟨pk_in i 8 hi, ?_⟩)
        rw [nI_clamp (by omega)]
        by_cases z : i = q
        · subst z
          have e1 := h.1 (Nat.le_refl i)
          exact br_t h1 (pr_consW0 hnd hi h3 h5 h6 h4 (by rw [e1]; exact hc) (nm_r (nI_1 i) (hw (c, nI i) ⟨fun t => absurd t (by omega), fun _ => rfl⟩)))
        · exact br_c (fun _ => pr_consN hi (ho i hi g z) (nm_r (nI_1 i) (K z))) (fun _ => nm_r (nI_1 i) (K z))
      · exact pr_has0 i hi (Decidable.not_not.mp g) (br_t rfl (nm_r (nI_1 i) (K (fun z => g (z ▸ hs))))))))
/-- the rules' loop where no rule offers anything -/
theorem pr_goN {post : St2 → Prop} {nd : Nat} {a : Int32} (hnd : nd < 108) (ho : ∀ k, k < 8 → pr_hs R k → a3 k ≠ 3 ∨ (a3 k = 3 ∧ a5 0 = a2 k ∧ a6 nd = 1 ∧ a9 (nd * 8) = nI k))
    (H : wX_goOn_81 post (nI nd) R sz bg ak 100000 nm (-1) mm a1 a2 a3 a4 a5 a6 a7 a8 a9 a10 a11 a12 a13) : ∃ fu, wX_goOn_31 post (nI nd) a 0 1 fu 0 R sz bg ak 100000 nm (-1) mm a1 a2 a3 a4 a5 a6 a7 a8 a9 a10 a11 a12 a13 :=
  pk_loop (σ := Unit) (fun n i _ => wX_goOn_31 post (nI nd) a 0 1 n (nI i) R sz bg ak 100000 nm (-1) mm a1 a2 a3 a4 a5 a6 a7 a8 a9 a10 a11 a12 a13) (fun _ _ => True) 8 0 () (by omega) trivial
    (fun n _ _ => pk_le 8 8 (fun _ => H) (fun z => absurd z (by omega)))
    (fun n i _ hi _ hw => pk_le 8 i (fun z => absurd z (by omega)) (fun _ => br_f (by decide) (by
      have K : wX_goOn_31 post (nI nd) a 0 1 n (nI (i + 1)) R sz bg ak 100000 nm (-1) mm a1 a2 a3 a4 a5 a6 a7 a8 a9 a10 a11 a12 a13 := hw () trivial
      by_cases g : pr_hs R i
      · refine pr_has1 i hi g (br_f (by decide) ⟨pk_in i 8 hi, br_c (fun _ => ?_) (fun _ => nm_r (nI_1 i) K)⟩)
        rcases ho i hi g with z | ⟨z3, z5, z6, z9⟩
        · exact pr_consN hi z (nm_r (nI_1 i) K)
        · exact pr_consW1 hnd hi z3 z5 z6 z9 (nm_r (nI_1 i) K)
      · exact pr_has0 i hi (Decidable.not_not.mp g) (br_t rfl (nm_r (nI_1 i) K)))))
theorem pr_81n {post : St2 → Prop} {nd : Nat} (hnd : nd < 108) (H : post (R, sz, bg, ak, 100000, nm, -1, mm, a1, a2, a3, a4, a5, a6, upd a7 nd 1, a8, a9, a10, a11, a12, a13)) : wX_goOn_81 post (nI nd) R sz bg ak 100000 nm (-1) mm a1 a2 a3 a4 a5 a6 a7 a8 a9 a10 a11 a12 a13 :=
  br_t (by decide) (br_t rfl ⟨pk_in nd 108 hnd, nm_r (e' := upd a7 nd 1) (by rw [nI_clamp (by omega)]) H⟩)
theorem pr_81w {post : St2 → Prop} {nd q : Nat} {c : Int32} (hnd : nd < 108) (hq : q < 8) (hc : ¬ 100000 ≤ c) (h6 : a6 nd = 0)
    (H : post (R, sz, bg, ak, c, nI q, -1, mm, a1, a2, a3, a4, a5, upd a6 nd 1, a7, upd a8 (nd * 8) c, upd a9 (nd * 8) (nI q), a10, a11, a12, a13)) : wX_goOn_81 post (nI nd) R sz bg ak c (nI q) (-1) mm a1 a2 a3 a4 a5 a6 a7 a8 a9 a10 a11 a12 a13 := by
  have e : (nI nd).toNatClampNeg = nd := nI_clamp (by omega)
  have e8 : (nI (nd * 8)).toNatClampNeg = nd * 8 := nI_clamp (by omega)
  have hc' : ¬ c = 100000 := fun z => hc (by rw [z]; decide)
  exact br_t (by decide) (br_f hc' ⟨pk_in nd 108 hnd, br_f (by rw [e, h6]; decide) ⟨pk_in nd 108 hnd, nm_r (e' := nI (nd * 8)) (by rw [e, h6]; exact pr_cell0 nd)
    ⟨pk_in (nd * 8) 864 (by omega), nm_r (e' := upd a8 (nd * 8) c) (by rw [e8]) ⟨pk_in (nd * 8) 864 (by omega), nm_r (e' := upd a9 (nd * 8) (nI q)) (by rw [e8, pr_s16 q (by omega)])
      ⟨pk_in nd 108 hnd, pk_in nd 108 hnd, nm_r (e' := upd a6 nd 1) (by rw [e, h6]; rfl) H⟩⟩⟩⟩⟩)
theorem pr_mod3 {al : Nat} (h : al < 3) : nI (3 + al) - nI (3 + al) / 3 * 3 = nI al ∧ nI (3 + al) / 18 = 0 ∧ nI (3 + al) / 3 - nI (3 + al) / 3 / 6 * 6 = 1 := by
  rcases (show al = 0 ∨ al = 1 ∨ al = 2 by omega) with rfl | rfl | rfl <;> decide
theorem pr_goOnW {post : St2 → Prop} {al q : Nat} {c : Int32} (hal : al < 3) (hq : q < 8) (hs : pr_hs R q) (h1 : a1 q = nI al) (h3 : a3 q = 3) (h5 : a5 0 = a2 q) (h4 : a4 q = c) (hc : ¬ 100000 ≤ c) (ho : ∀ k, k < 8 → pr_hs R k → k ≠ q → a3 k ≠ 3) (h6 : a6 (3 + al) = 0)
    (H : post (R, sz, bg, ak, c, nI q, -1, mm, a1, a2, a3, a4, a5, upd a6 (3 + al) 1, a7, upd a8 ((3 + al) * 8) c, upd a9 ((3 + al) * 8) (nI q), a10, a11, a12, a13)) : wpX_goOn post (R, sz, bg, ak, nc, nm, mn, mm, a1, a2, a3, a4, a5, a6, a7, a8, a9, a10, a11, a12, a13) (nI (3 + al)) :=
  ⟨by decide, nm_r (pr_mod3 hal).1 ⟨by decide, nm_r (pr_mod3 hal).2.1 ⟨by decide, by decide, nm_r (pr_mod3 hal).2.2 (pr_goW (by omega) hq hs h1 h3 h5 h4 hc ho h6 (pr_81w (by omega) hq hc h6 H))⟩⟩⟩
theorem pr_goOnN {post : St2 → Prop} {al : Nat} (hal : al < 3) (ho : ∀ k, k < 8 → pr_hs R k → a3 k ≠ 3 ∨ (a3 k = 3 ∧ a5 0 = a2 k ∧ a6 (3 + al) = 1 ∧ a9 ((3 + al) * 8) = nI k))
    (H : post (R, sz, bg, ak, 100000, nm, -1, mm, a1, a2, a3, a4, a5, a6, upd a7 (3 + al) 1, a8, a9, a10, a11, a12, a13)) : wpX_goOn post (R, sz, bg, ak, nc, nm, mn, mm, a1, a2, a3, a4, a5, a6, a7, a8, a9, a10, a11, a12, a13) (nI (3 + al)) :=
  ⟨by decide, nm_r (pr_mod3 hal).1 ⟨by decide, nm_r (pr_mod3 hal).2.1 ⟨by decide, by decide, nm_r (pr_mod3 hal).2.2 (pr_goN (by omega) ho (pr_81n (by omega) H))⟩⟩⟩
end
end
section
/-! reach, trees, cost -/
/-- the rules that stand: none is a word's but rule q, and that one only if W -/
def pr_G (R : Int32) (a1 a2 a3 a4 a5 : Nat → Int32) (a c : Int32) (W : Prop) (q : Nat) : Prop :=
  (∀ k, k < 8 → pr_hs R k → a3 k ≠ 3 ∨ (W ∧ k = q)) ∧ (W → q < 8 ∧ pr_hs R q ∧ a1 q = a ∧ a3 q = 3 ∧ a5 0 = a2 q ∧ a4 q = c ∧ ¬ 100000 ≤ c)
/-- the state behind trees -/
def pr_K (sz bg : Int32) (a6 a7 a8 : Nat → Int32) (a c : Int32) (W : Prop) : Prop :=
  (sz = 0 ∧ ¬ W) ∨ (sz = 1 ∧ ¬ pr_is a ∧ ¬ W) ∨ (sz = 1 ∧ bg = 1 ∧ ∃ al : Nat, al < 3 ∧ a = nI al ∧ a7 (3 + al) = 1 ∧ (W → a6 (3 + al) = 1 ∧ a8 ((3 + al) * 8) = c) ∧ (¬ W → a6 (3 + al) = 0))
theorem pr_z1 : ((1 : Int32) - 1).toNatClampNeg = 0 := by decide
theorem pr_node (al : Nat) : ((0 : Int32) * 6 + 1) * 3 + nI al = nI (3 + al) := by
  rw [← nI_add]
  rfl
section
variable {R sz bg ak nc nm mn mm : Int32} {a1 a2 a3 a4 a5 a6 a7 a8 a9 a10 a11 a12 a13 : Nat → Int32}
theorem pr_dec {post : Int32 → St2 → Prop} {x1 x2 : Int32} {nd i n : Nat} (hi : i < 2047) (hnd : nd < 108) (h10 : a10 0 = nI nd) (hc : a11 0 < a6 nd ∨ ¬ a7 nd = 0) (H : wX_reach_100 post x1 x2 R sz bg 0 nc nm mn mm a1 a2 a3 a4 a5 a6 a7 a8 a9 a10 a11 a12 a13) : wX_reach_17 post x1 x2 (n + 2) (nI i) R sz bg 1 nc nm mn mm a1 a2 a3 a4 a5 a6 a7 a8 a9 a10 a11 a12 a13 := by
  have e : (nI nd).toNatClampNeg = nd := nI_clamp (by omega)
  have D : wX_reach_75 post (wX_reach_17 post x1 x2 (n + 1)) x1 x2 (nI i) R sz bg 1 nc nm mn mm a1 a2 a3 a4 a5 a6 a7 a8 a9 a10 a11 a12 a13 := nm_r (e' := 0) (by decide) (nm_r (nI_1 i) (br_c (fun _ => H) (fun _ => br_t (by decide) H)))
  refine br_f (nI_ge (b := 2048) (by omega) (by decide)) (br_f (by decide) ⟨pk_in 0 8 (by decide) (by decide), nm_r (e' := nI nd) (by rw [pr_z1]; exact h10) ⟨pk_in nd 108 hnd, pk_in 0 8 (by decide) (by decide), ?_⟩⟩)
  rw [e, pr_z1]
  by_cases g : a11 0 < a6 nd
  · exact br_t g D
  · exact br_f g ⟨pk_in nd 108 hnd, br_f (hc.resolve_left g) D⟩
theorem pr_rmk {post : Int32 → St2 → Prop} {x1 x2 c : Int32} {al q i n : Nat} (hi : i < 2048) (hal : al < 3) (h10 : a10 0 = nI (3 + al)) (h11 : ¬ a11 0 < a6 (3 + al)) (h7 : a7 (3 + al) = 0)
    (hq : q < 8) (hs : pr_hs R q) (h1 : a1 q = nI al) (h3 : a3 q = 3) (h5 : a5 0 = a2 q) (h4 : a4 q = c) (hc : ¬ 100000 ≤ c) (ho : ∀ k, k < 8 → pr_hs R k → k ≠ q → a3 k ≠ 3) (h6 : a6 (3 + al) = 0)
    (H : wX_reach_17 post x1 x2 n (nI (i + 1)) R sz bg 1 c (nI q) (-1) mm a1 a2 a3 a4 a5 (upd a6 (3 + al) 1) a7 (upd a8 ((3 + al) * 8) c) (upd a9 ((3 + al) * 8) (nI q)) a10 a11 a12 a13) : wX_reach_17 post x1 x2 (n + 1) (nI i) R sz bg 1 nc nm mn mm a1 a2 a3 a4 a5 a6 a7 a8 a9 a10 a11 a12 a13 := by
  have e : (nI (3 + al)).toNatClampNeg = 3 + al := nI_clamp (by omega)
  refine br_f (nI_ge (b := 2048) (by omega) (by decide)) (br_f (by decide) ⟨pk_in 0 8 (by decide) (by decide), nm_r (e' := nI (3 + al)) (by rw [pr_z1]; exact h10) ⟨pk_in (3 + al) 108 (by omega), pk_in 0 8 (by decide) (by decide), ?_⟩⟩)
  rw [e, pr_z1]
  exact br_f h11 ⟨pk_in (3 + al) 108 (by omega), br_t h7 (pr_goOnW hal hq hs h1 h3 h5 h4 hc ho h6 (nm_r (nI_1 i) H))⟩
theorem pr_rex {post : Int32 → St2 → Prop} {x1 x2 : Int32} {al i n : Nat} (hi : i < 2048) (hal : al < 3) (h10 : a10 0 = nI (3 + al)) (h11 : ¬ a11 0 < a6 (3 + al)) (h7 : a7 (3 + al) = 0)
    (ho : ∀ k, k < 8 → pr_hs R k → a3 k ≠ 3 ∨ (a3 k = 3 ∧ a5 0 = a2 k ∧ a6 (3 + al) = 1 ∧ a9 ((3 + al) * 8) = nI k))
    (H : wX_reach_17 post x1 x2 n (nI (i + 1)) R sz bg 1 100000 nm (-1) mm a1 a2 a3 a4 a5 a6 (upd a7 (3 + al) 1) a8 a9 a10 a11 a12 a13) : wX_reach_17 post x1 x2 (n + 1) (nI i) R sz bg 1 nc nm mn mm a1 a2 a3 a4 a5 a6 a7 a8 a9 a10 a11 a12 a13 := by
  have e : (nI (3 + al)).toNatClampNeg = 3 + al := nI_clamp (by omega)
  refine br_f (nI_ge (b := 2048) (by omega) (by decide)) (br_f (by decide) ⟨pk_in 0 8 (by decide) (by decide), nm_r (e' := nI (3 + al)) (by rw [pr_z1]; exact h10) ⟨pk_in (3 + al) 108 (by omega), pk_in 0 8 (by decide) (by decide), ?_⟩⟩)
  rw [e, pr_z1]
  exact br_f h11 ⟨pk_in (3 + al) 108 (by omega), br_t h7 (pr_goOnN hal ho (nm_r (nI_1 i) H))⟩
theorem pr_reachT {post : Int32 → St2 → Prop} {al q : Nat} {c : Int32} {W : Prop} (hal : al < 3) (hG : pr_G R a1 a2 a3 a4 a5 (nI al) c W q)
    (H : ∀ (r nc' nm' mn' mm' : Int32) (b6 b7 b8 b9 b10 b11 : Nat → Int32), (W → b6 (3 + al) = 1 ∧ b8 ((3 + al) * 8) = c) → (¬ W → b6 (3 + al) = 0) → b7 (3 + al) = 1 → post r (R, sz, 1, 0, nc', nm', mn', mm', a1, a2, a3, a4, a5, b6, b7, b8, b9, b10, b11, a12, a13)) : wpX_reach post (R, sz, 0, ak, nc, nm, mn, mm, a1, a2, a3, a4, a5, a6, a7, a8, a9, a10, a11, a12, a13) (nI (3 + al)) 7 := by
  unfold wpX_reach
  refine pr_begin (fun b6 b7 h6 h7 => pr_ask ?_)
  have z6 := h6 (3 + al) (by omega)
  have z7 := h7 (3 + al) (by omega)
  have h10 : upd a10 0 (nI (3 + al)).toInt8.toInt32 0 = nI (3 + al) := by rw [pk_us, pr_b8 _ (by omega)]
  have h11 : upd a11 0 (7 : Int32).toInt8.toInt32 0 = 7 := by rw [pk_us]; decide
  by_cases hW : W
  · obtain ⟨hq, hs, g1, g3, g5, g4, gc⟩ := hG.2 hW
    refine ⟨4, pr_rmk (i := 0) (by decide) hal h10 (by rw [h11, z6]; decide) z7 hq hs g1 g3 g5 g4 gc (fun k hk hk' n => (hG.1 k hk hk').resolve_right (fun t => n t.2)) z6
      (pr_rex (i := 1) (al := al) (by decide) hal h10 (by rw [h11, pk_us]; decide) z7 (fun k hk hk' => (hG.1 k hk hk').imp id (fun t => by
          rw [t.2, pk_us, pk_us]
          exact ⟨g3, g5, rfl, rfl⟩))
        (pr_dec (i := 2) (nd := 3 + al) (by decide) (by omega) h10 (Or.inr (by rw [pk_us]; decide)) ⟨pk_in (3 + al) 108 (by omega), br_c (fun _ => ?_) (fun _ => ?_)⟩))⟩
    · exact H _ _ _ _ _ _ _ _ _ _ _ (fun _ => ⟨pk_us, pk_us⟩) (fun t => absurd hW t) pk_us
    · exact H _ _ _ _ _ _ _ _ _ _ _ (fun _ => ⟨pk_us, pk_us⟩) (fun t => absurd hW t) pk_us
  · refine ⟨3, pr_rex (i := 0) (al := al) (by decide) hal h10 (by rw [h11, z6]; decide) z7 (fun k hk hk' => (hG.1 k hk hk').imp id (fun t => absurd t.1 hW))
        (pr_dec (i := 1) (nd := 3 + al) (by decide) (by omega) h10 (Or.inr (by rw [pk_us]; decide)) ⟨pk_in (3 + al) 108 (by omega), br_c (fun _ => ?_) (fun _ => ?_)⟩)⟩
    · exact H _ _ _ _ _ _ _ _ _ _ _ (fun t => absurd t hW) (fun _ => z6) pk_us
    · exact H _ _ _ _ _ _ _ _ _ _ _ (fun t => absurd t hW) (fun _ => z6) pk_us
theorem pr_reachC {post : Int32 → St2 → Prop} {al m t : Nat} (hal : al < 3) (h7 : a7 (3 + al) = 1) (h6 : a6 (3 + al) = nI t) (ht : t ≤ 1) (hm : m < 8)
    (H1 : m < t → ∀ b10 b11 : Nat → Int32, post 1 (R, sz, 1, 0, nc, nm, mn, mm, a1, a2, a3, a4, a5, a6, a7, a8, a9, b10, b11, a12, a13)) (H0 : t ≤ m → ∀ b10 b11 : Nat → Int32, post 0 (R, sz, 1, 0, nc, nm, mn, mm, a1, a2, a3, a4, a5, a6, a7, a8, a9, b10, b11, a12, a13)) : wpX_reach post (R, sz, 1, ak, nc, nm, mn, mm, a1, a2, a3, a4, a5, a6, a7, a8, a9, a10, a11, a12, a13) (nI (3 + al)) (nI m) := by
  have e : (nI (3 + al)).toNatClampNeg = 3 + al := nI_clamp (by omega)
  have h10 : upd a10 0 (nI (3 + al)).toInt8.toInt32 0 = nI (3 + al) := by rw [pk_us, pr_b8 _ (by omega)]
  unfold wpX_reach
  refine br_f (by decide) (pr_ask ⟨2, pr_dec (i := 0) (nd := 3 + al) (by decide) (by omega) h10 (Or.inr (by rw [h7]; decide)) ⟨pk_in (3 + al) 108 (by omega), ?_⟩⟩)
  rw [e, h6]
  exact pk_le t m (fun z => H0 z _ _) (fun z => H1 z _ _)
theorem pr_trees {post : Int32 → St2 → Prop} {q : Nat} {a c : Int32} {W : Prop} (hsz : (sz = 0 ∧ ¬ W) ∨ (sz = 1 ∧ bg = 0 ∧ (W → pr_is a) ∧ ∀ al : Nat, al < 3 → a = nI al → pr_G R a1 a2 a3 a4 a5 (nI al) c W q))
    (H : ∀ (t bg' ak' nc' nm' mn' mm' : Int32) (b6 b7 b8 b9 b10 b11 : Nat → Int32), (W → t = 1) → (¬ W → t = 0) → pr_K sz bg' b6 b7 b8 a c W → post t (R, sz, bg', ak', nc', nm', mn', mm', a1, a2, a3, a4, a5, b6, b7, b8, b9, b10, b11, a12, a13)) : wpX_trees post (R, sz, bg, ak, nc, nm, mn, mm, a1, a2, a3, a4, a5, a6, a7, a8, a9, a10, a11, a12, a13) a := by
  rcases hsz with ⟨rfl, hW⟩ | ⟨rfl, rfl, hWa, hG⟩
  · exact br_t rfl (H _ _ _ _ _ _ _ _ _ _ _ _ _ (fun t => absurd t hW) (fun _ => rfl) (Or.inl ⟨rfl, hW⟩))
  · by_cases ha : pr_is a
    · obtain ⟨al, hal, rfl⟩ := pr_ix3 ha
      refine br_f (by decide) (br_f ha.1 (br_f ha.2 (br_f (by decide) ?_)))
      unfold wpX_nodeOf
      rw [pr_node]
      refine pr_reachT hal (hG al hal rfl) (fun r nc' nm' mn' mm' b6 b7 b8 b9 b10 b11 k1 k2 k3 => ⟨pk_in (3 + al) 108 (by omega), ?_⟩)
      rw [nI_clamp (by omega)]
      exact H _ _ _ _ _ _ _ _ _ _ _ _ _ (fun t => (k1 t).1) k2 (Or.inr (Or.inr ⟨rfl, rfl, al, hal, rfl, k3, k1, k2⟩))
    · have hW : ¬ W := fun t => ha (hWa t)
      have Z : post 0 (R, 1, 0, ak, nc, nm, mn, mm, a1, a2, a3, a4, a5, a6, a7, a8, a9, a10, a11, a12, a13) := H _ _ _ _ _ _ _ _ _ _ _ _ _ (fun t => absurd t hW) (fun _ => rfl) (Or.inr (Or.inl ⟨rfl, ha, hW⟩))
      exact br_f (by decide) (br_c (fun _ => br_t rfl Z) (fun h1 => br_c (fun _ => br_t rfl Z) (fun h2 => absurd ⟨h1, h2⟩ ha)))
theorem pr_cost {post : Int32 → St2 → Prop} {a c k : Int32} {W : Prop} (hK : pr_K sz bg a6 a7 a8 a c W)
    (H : ∀ (v bg' ak' : Int32) (b10 b11 : Nat → Int32), (W → k = 0 → v = c) → (¬ (W ∧ k = 0) → v = -1) → post v (R, sz, bg', ak', nc, nm, mn, mm, a1, a2, a3, a4, a5, a6, a7, a8, a9, b10, b11, a12, a13)) : wpX_cost post (R, sz, bg, ak, nc, nm, mn, mm, a1, a2, a3, a4, a5, a6, a7, a8, a9, a10, a11, a12, a13) a k := by
  have Z : ¬ (W ∧ k = 0) → post (-1) (R, sz, bg, ak, nc, nm, mn, mm, a1, a2, a3, a4, a5, a6, a7, a8, a9, a10, a11, a12, a13) := fun h => H _ _ _ _ _ (fun x y => absurd ⟨x, y⟩ h) (fun _ => rfl)
  unfold wpX_cost
  rcases hK with ⟨rfl, hW⟩ | ⟨rfl, ha, hW⟩ | ⟨rfl, rfl, al, hal, rfl, k7, k1, k0⟩
  · exact br_f (by decide) (br_t (by decide) (br_t rfl (Z (fun t => hW t.1))))
  · have Z' := Z (fun t => hW t.1)
    exact br_f (by decide) (br_f (by decide) (br_f (by decide) (br_f (by decide) (br_c (fun _ => br_t rfl Z') (fun h1 => br_c (fun _ => br_t rfl Z') (fun h2 => absurd ⟨h1, h2⟩ ha))))))
  · refine br_f (by decide) (br_f (by decide) (br_f (by decide) (br_f (by decide) (br_f (nI_pos (by omega)) (br_f (nI_ge (b := 3) hal (by decide)) (br_f (by decide)
      (br_c (fun g => Z (fun t => by rw [t.2] at g; exact absurd g (by decide))) (fun g => br_c (fun g8 => ?_) (fun g8 => Z (fun t => g8 (by rw [t.2]; decide)))))))))))
    have hm : ∃ m : Nat, m < 8 ∧ k = nI m := by
      rcases pk_ix k (n := 8) (by decide) with z | z | z
      · exact absurd z g
      · exact absurd g8 (Int32.not_lt.mpr z)
      · exact z
    obtain ⟨m, hm, rfl⟩ := hm
    have hz : nI m = 0 ↔ m = 0 := nI_eq (b := 0) (by omega) (by decide)
    unfold wpX_nodeOf
    rw [pr_node]
    by_cases hW : W
    · obtain ⟨k6, k8⟩ := k1 hW
      refine pr_reachC (t := 1) hal k7 k6 (by omega) hm (fun hmt b10 b11 => br_f (by decide) ?_) (fun hmt b10 b11 => br_t rfl (H _ _ _ _ _ (fun _ y => absurd (hz.mp y) (by omega)) (fun _ => rfl)))
      have e0 : m = 0 := by omega
      subst e0
      refine ⟨pk_in ((3 + al) * 8) 864 (by omega) (pr_cell0 _), ?_⟩
      rw [show nI (3 + al) * 8 + nI 0 = nI ((3 + al) * 8) from pr_cell0 _, nI_clamp (by omega), k8]
      exact H _ _ _ _ _ (fun _ _ => rfl) (fun t => absurd ⟨hW, rfl⟩ t)
    · exact pr_reachC (t := 0) hal k7 (k0 hW) (by omega) hm (fun hmt => absurd hmt (by omega)) (fun hmt b10 b11 => br_t rfl (H _ _ _ _ _ (fun x _ => absurd x hW) (fun _ => rfl)))
end
end
section
/-! the law's comparison, and the owed statement -/
abbrev pr_fl (p : Prop) (x : Int32) : Prop := (p → x = 1) ∧ (¬ p → x = 0)
theorem pr_flT {p : Prop} (h : p) : pr_fl p 1 := ⟨fun _ => rfl, fun n => absurd h n⟩
theorem pr_flF {p : Prop} (h : ¬ p) : pr_fl p 0 := ⟨fun t => absurd t h, fun _ => rfl⟩
theorem pr_flN {p : Prop} {x : Int32} (f : pr_fl p x) (h : ¬ x = 0) : p := Classical.byContradiction (fun n => h (f.2 n))
theorem pr_flZ {p : Prop} {x : Int32} (f : pr_fl p x) (h : x = 0) : ¬ p := fun t => absurd ((f.1 t).symm.trans h) (by decide)
section
variable {post : Int32 → St0 → Prop} {mc ms kc ks : Nat} {x0 x1 x2 x3 x4 x6 x7 x8 x9 x10 x11 x12 x14 x15 z0 : Int32}
theorem pr_17500 (H : post 1 ()) : wL_lawOf_175 post mc ms x1 x4 (-1) (-1) x8 0 (-1) 0 0 x8 0 kc ks :=
  br_t rfl (br_t rfl (br_t rfl (br_t rfl (br_t rfl (br_t rfl (br_t rfl (br_t rfl (br_t rfl (br_t rfl (br_t rfl (br_t rfl (br_t rfl H))))))))))))
theorem pr_17510 (H : post 1 ()) : wL_lawOf_175 post mc ms x1 x4 0 (-1) x8 0 (-1) 1 1 x8 0 kc ks :=
  br_t rfl (br_f (by decide) (br_t rfl (br_t rfl (br_t rfl (br_t rfl (br_t rfl (br_t rfl (br_t rfl (br_f (by decide) (br_t rfl (br_f (by decide) (br_t rfl H))))))))))))
theorem pr_17501 (h1 : x4 = 0 → x10 = x1) (h0 : ¬ x4 = 0 → x10 = -1) (H : post 1 ()) : wL_lawOf_175 post mc ms x1 x4 (-1) 0 x8 1 x10 1 0 x8 1 kc ks := by
  have T : wL_lawOf_278 post mc ms 0 1 1 kc ks := br_t rfl (br_f (by decide) (br_t rfl H))
  exact br_f (by decide) (br_t rfl (br_t rfl (br_t rfl (br_t rfl (br_t rfl (br_f (by decide) (br_t rfl (br_f (by decide) (br_c (fun e => br_t (h1 e) (br_t rfl T)) (fun e => br_t (h0 e) (br_t rfl T)))))))))))
theorem pr_17511 (h1 : x4 = 0 → x10 = x1) (h0 : ¬ x4 = 0 → x10 = -1) (H : post 1 ()) : wL_lawOf_175 post mc ms x1 x4 0 1 x8 1 x10 3 1 x8 1 kc ks := by
  exact br_f (by decide) (br_f (by decide) (br_f (by decide) (br_t rfl (br_t rfl (br_t rfl (br_f (by decide) (br_t rfl (br_f (by decide) (br_c
    (fun e => br_t (h1 e) (br_f (by decide) (br_f (by decide) (br_t rfl H)))) (fun e => br_t (h0 e) (br_f (by decide) (br_f (by decide) (br_t rfl H)))))))))))))
theorem pr_149 (hw : pr_fl (pr_iw x3) z0) (hp : pr_fl (pr_pd x1) x12) (h : ∀ z : Int32, pr_fl (pr_wd x2 x3 x1) z → wL_lawOf_175 post mc ms x1 x4 x6 x7 x8 x9 x10 x11 x14 z0 z kc ks) : wL_lawOf_149 post mc ms x1 x2 x4 x6 x7 x8 x9 x10 x11 x12 x14 z0 kc ks := by
  have N : ¬ pr_wd x2 x3 x1 → wL_lawOf_174 post mc ms x1 x4 x6 x7 x8 x9 x10 x11 x14 z0 kc ks := fun n => h 0 (pr_flF n)
  exact br_c (fun e => N (fun t => pr_flZ hw e t.2.1)) (fun a => br_c (fun e => N (fun t => t.1.1 e)) (fun b => br_c (fun e => N (fun t => t.1.2 ((pr_23 _).mp e))) (fun c =>
    br_c (fun e => N (fun t => pr_flZ hp e t.2.2)) (fun d => h 1 (pr_flT ⟨⟨b, fun t => c ((pr_23 _).mpr t)⟩, pr_flN hw a, pr_flN hp d⟩)))))
theorem pr_133 (hp : pr_fl (pr_pd x1) x12) (h : ∀ x15 z : Int32, pr_fl (pr_iw x3) x15 → pr_fl (pr_wd x2 x3 x1) z → wL_lawOf_175 post mc ms x1 x4 x6 x7 x8 x9 x10 x11 x14 x15 z kc ks) : wL_lawOf_133 post mc ms x1 x2 x3 x4 x6 x7 x8 x9 x10 x11 x12 x14 kc ks := by
  have N : ¬ pr_iw x3 → wL_lawOf_148 post mc ms x1 x2 x4 x6 x7 x8 x9 x10 x11 x12 x14 kc ks := fun n => pr_149 (pr_flF n) hp (fun z hz => h 0 z (pr_flF n) hz)
  exact br_c (fun e => N (fun t => t.1 e)) (fun a => br_c (fun e => N (fun t => t.2 e)) (fun b => pr_149 (pr_flT ⟨a, b⟩) hp (fun z hz => h 1 z (pr_flT ⟨a, b⟩) hz)))
theorem pr_116 (hp : pr_fl (pr_pd x1) x12) (hf : pr_fl (pr_fm x0) z0) (h : ∀ x14 x15 z : Int32, pr_fl (pr_fm x0 ∧ pr_pd x1) x14 → pr_fl (pr_iw x3) x15 → pr_fl (pr_wd x2 x3 x1) z → wL_lawOf_175 post mc ms x1 x4 x6 x7 x8 x9 x10 x11 x14 x15 z kc ks) : wL_lawOf_116 post mc ms x1 x2 x3 x4 x6 x7 x8 x9 x10 x11 x12 z0 kc ks := by
  have N : ¬ (pr_fm x0 ∧ pr_pd x1) → wL_lawOf_132 post mc ms x1 x2 x3 x4 x6 x7 x8 x9 x10 x11 x12 kc ks := fun n => pr_133 hp (fun x15 z => h 0 x15 z (pr_flF n))
  exact br_c (fun e => N (fun t => pr_flZ hf e t.1)) (fun a => br_c (fun e => N (fun t => pr_flZ hp e t.2)) (fun b => pr_133 hp (fun x15 z => h 1 x15 z (pr_flT ⟨pr_flN hf a, pr_flN hp b⟩))))
theorem pr_76 (hp : pr_fl (pr_pd x1) x12) (h : ∀ x14 x15 z : Int32, pr_fl (pr_fm x0 ∧ pr_pd x1) x14 → pr_fl (pr_iw x3) x15 → pr_fl (pr_wd x2 x3 x1) z → wL_lawOf_175 post mc ms x1 x4 x6 x7 x8 x9 x10 x11 x14 x15 z kc ks) : wL_lawOf_76 post mc ms x0 x1 x2 x3 x4 x6 x7 x8 x9 x10 x11 x12 kc ks := by
  have N : ¬ pr_fm x0 → wL_lawOf_115 post mc ms x1 x2 x3 x4 x6 x7 x8 x9 x10 x11 x12 kc ks := fun n => pr_116 hp (pr_flF n) h
  exact br_c (fun e => N (fun t => t.1 e)) (fun a => br_c (fun e => N (fun t => pr_63 t e)) (fun _ => br_c (fun e => N (fun t => t.2.1 e)) (fun b => br_c (fun e => N (fun t => t.2.2.1 e)) (fun c =>
    br_c (fun e => N (fun t => t.2.2.2 e)) (fun d => pr_116 hp (pr_flT ⟨a, b, c, d⟩) h)))))
theorem pr_top (h : ∀ x14 x15 z : Int32, pr_fl (pr_fm x0 ∧ pr_pd x1) x14 → pr_fl (pr_iw x3) x15 → pr_fl (pr_wd x2 x3 x1) z → wL_lawOf_175 post mc ms x1 x4 x6 x7 x8 x9 x10 x11 x14 x15 z kc ks) :
    (x1 < 0 → wL_lawOf_75 post mc ms x0 x1 x2 x3 x4 x6 x7 x8 x9 x10 x11 kc ks) ∧ (¬ x1 < 0 → ((50 < x1 → wL_lawOf_75 post mc ms x0 x1 x2 x3 x4 x6 x7 x8 x9 x10 x11 kc ks) ∧ (¬ 50 < x1 → wL_lawOf_76 post mc ms x0 x1 x2 x3 x4 x6 x7 x8 x9 x10 x11 1 kc ks))) := by
  have N : ¬ pr_pd x1 → wL_lawOf_75 post mc ms x0 x1 x2 x3 x4 x6 x7 x8 x9 x10 x11 kc ks := fun n => pr_76 (pr_flF n) h
  exact br_c (fun e => N (fun t => t.1 e)) (fun a => br_c (fun e => N (fun t => (pr_50 _).mp t.2 e)) (fun b => pr_76 (pr_flT ⟨a, (pr_50 _).mpr b⟩) h))
/-- what the six answers must be -/
theorem pr_end (f6 : (pr_fm x0 ∧ pr_pd x1 → x6 = 0) ∧ (¬ (pr_fm x0 ∧ pr_pd x1) → x6 = -1))
    (f7 : (pr_wd x2 x3 x1 → pr_fm x0 ∧ pr_pd x1 → x7 = 1 ∧ x11 = 3) ∧ (pr_wd x2 x3 x1 → ¬ (pr_fm x0 ∧ pr_pd x1) → x7 = 0 ∧ x11 = 1) ∧ (¬ pr_wd x2 x3 x1 → pr_fm x0 ∧ pr_pd x1 → x7 = -1 ∧ x11 = 1) ∧ (¬ pr_wd x2 x3 x1 → ¬ (pr_fm x0 ∧ pr_pd x1) → x7 = -1 ∧ x11 = 0))
    (f8 : pr_fl (pr_iw x3) x8) (f9 : pr_fl (pr_wd x2 x3 x1) x9) (f10 : (pr_wd x2 x3 x1 → x4 = 0 → x10 = x1) ∧ (¬ (pr_wd x2 x3 x1 ∧ x4 = 0) → x10 = -1)) (H : post 1 ()) :
    ∀ x14 x15 z : Int32, pr_fl (pr_fm x0 ∧ pr_pd x1) x14 → pr_fl (pr_iw x3) x15 → pr_fl (pr_wd x2 x3 x1) z → wL_lawOf_175 post mc ms x1 x4 x6 x7 x8 x9 x10 x11 x14 x15 z kc ks := by
  intro x14 x15 z g14 g15 gz
  have e8 : x15 = x8 := by
    by_cases q : pr_iw x3
    · rw [g15.1 q, f8.1 q]
    · rw [g15.2 q, f8.2 q]
  by_cases hP : pr_fm x0 ∧ pr_pd x1
  · by_cases hW : pr_wd x2 x3 x1
    · obtain ⟨e7, e11⟩ := f7.1 hW hP
      rw [e8, g14.1 hP, gz.1 hW, f6.1 hP, e7, e11, f9.1 hW]
      exact pr_17511 (f10.1 hW) (fun n => f10.2 (fun t => n t.2)) H
    · obtain ⟨e7, e11⟩ := f7.2.2.1 hW hP
      rw [e8, g14.1 hP, gz.2 hW, f6.1 hP, e7, e11, f9.2 hW, f10.2 (fun t => hW t.1)]
      exact pr_17510 H
  · by_cases hW : pr_wd x2 x3 x1
    · obtain ⟨e7, e11⟩ := f7.2.1 hW hP
      rw [e8, g14.2 hP, gz.1 hW, f6.2 hP, e7, e11, f9.1 hW]
      exact pr_17501 (f10.1 hW) (fun n => f10.2 (fun t => n t.2)) H
    · obtain ⟨e7, e11⟩ := f7.2.2.2 hW hP
      rw [e8, g14.2 hP, gz.2 hW, f6.2 hP, e7, e11, f9.2 hW, f10.2 (fun t => hW t.1)]
      exact pr_17500 H
end
/-! the rules behind pair, word and say -/
theorem pr_hs0 : ∀ k, k < 8 → ¬ pr_hs 0 k := by decide
theorem pr_hs1 : ∀ k, k < 8 → pr_hs 1 k → k = 0 := by decide
theorem pr_hs3 : ∀ k, k < 8 → pr_hs 3 k → k = 0 ∨ k = 1 := by decide
theorem pr_a8 {a : Int32} (h : pr_is a) : a.toInt8.toInt32 = a := by
  obtain ⟨j, hj, rfl⟩ := pr_ix3 h
  exact pr_b8 j (by omega)
section
variable {a1 a2 a3 a4 a5 : Nat → Int32} {a w c x b d e : Int32} {W : Prop} {q al : Nat}
theorem pr_G0 (h : ¬ W) : pr_G 0 a1 a2 a3 a4 a5 a c W q := ⟨fun k hk g => absurd g (pr_hs0 k hk), fun t => absurd t h⟩
theorem pr_Gp (h : ¬ W) (hx : x ≠ 3) : pr_G 1 a1 a2 (upd a3 0 x) a4 a5 a c W q := ⟨fun k hk g => Or.inl (by rw [pr_hs1 k hk g, pk_us]; exact hx), fun t => absurd t h⟩
theorem pr_Gw (h : pr_wd a w c) : pr_G 1 (upd a1 0 a.toInt8.toInt32) (upd a2 0 w.toInt8.toInt32) (upd a3 0 (3 : Int32).toInt8.toInt32) (upd a4 0 c.toInt8.toInt32) (upd a5 0 w.toInt8.toInt32) a c (pr_wd a w c) 0 :=
  ⟨fun k hk g => Or.inr ⟨h, pr_hs1 k hk g⟩, fun _ => ⟨by decide, by decide, by rw [pk_us, pr_a8 h.1], by rw [pk_us]; decide, by rw [pk_us, pk_us], by rw [pk_us, pr_pd8 h.2.2], pr_pdFar h.2.2⟩⟩
theorem pr_Gpw (h : pr_wd a w c) (hx : x ≠ 3) : pr_G 3 (upd (upd a1 0 b) 1 a.toInt8.toInt32) (upd (upd a2 0 d) 1 w.toInt8.toInt32) (upd (upd a3 0 x) 1 (3 : Int32).toInt8.toInt32) (upd (upd a4 0 e) 1 c.toInt8.toInt32) (upd a5 0 w.toInt8.toInt32) a c (pr_wd a w c) 1 :=
  ⟨fun k hk g => (pr_hs3 k hk g).elim (fun z => Or.inl (by rw [z, pk_un (by decide), pk_us]; exact hx)) (fun z => Or.inr ⟨h, z⟩), fun _ => ⟨by decide, by decide, by rw [pk_us, pr_a8 h.1], by rw [pk_us]; decide, by rw [pk_us, pk_us], by rw [pk_us, pr_pd8 h.2.2], pr_pdFar h.2.2⟩⟩
end
theorem pr_init {post : St2 → Prop} (H : post (0, 0, 0, 0, 0, 0, 0, 0, (fun _ => 0), (fun _ => 0), (fun _ => 0), (fun _ => 0), (fun _ => 0), (fun _ => 0), (fun _ => 0), (fun _ => 0), (fun _ => 0), (fun _ => 0), (fun _ => 0), (fun _ => 0), (fun _ => 0))) : wpX_init post 13 2121 (0, 0, 0, 0, 0, 0, 0, 0) :=
  ⟨by decide, by decide, by decide, by decide, by decide, by decide, by decide, by decide, by decide, by decide, by decide, by decide, by decide, by decide, by decide, by decide, by decide, by decide, by decide, by decide, by decide, by decide, by decide, by decide, by decide, by decide, H⟩
theorem pr_lawOf {post : Int32 → St0 → Prop} (x c a w k : Int32) (H : post 1 ()) : wpL_lawOf post 778 12432 () x c a w k := by
  refine ⟨by decide, by decide, 13, 2121, by decide, by decide, pr_init (pr_pair (fun hP => pr_word0 (fun hW => pr_say (fun hI => ?_) (fun hI => ?_)) (fun hW => pr_say (fun hI => absurd hW.2.1 hI) (fun hI => ?_))) (fun hf hp => pr_word1 (fun hW => pr_say (fun hI => ?_) (fun hI => ?_)) (fun hW => pr_say (fun hI => absurd hW.2.1 hI) (fun hI => ?_))))⟩
  · exact pr_trees (q := 0) (c := c) (W := pr_wd a w c) (Or.inl ⟨rfl, hW⟩) (fun t _ _ _ _ _ _ _ _ _ _ _ _ ht ht' hK => pr_cost hK (fun v _ _ _ _ hv hv' => pr_top (pr_end ⟨fun t => absurd t hP, fun _ => rfl⟩ ⟨fun t => absurd t hW, fun t => absurd t hW, fun _ t => absurd t hP, fun _ _ => ⟨rfl, rfl⟩⟩ (pr_flF hI) ⟨ht, ht'⟩ ⟨hv, hv'⟩ H)))
  · exact pr_trees (q := 0) (c := c) (W := pr_wd a w c) (Or.inr ⟨rfl, rfl, fun t => t.1, fun al _ _ => pr_G0 hW⟩) (fun t _ _ _ _ _ _ _ _ _ _ _ _ ht ht' hK => pr_cost hK (fun v _ _ _ _ hv hv' => pr_top (pr_end ⟨fun t => absurd t hP, fun _ => rfl⟩ ⟨fun t => absurd t hW, fun t => absurd t hW, fun _ t => absurd t hP, fun _ _ => ⟨rfl, rfl⟩⟩ (pr_flT hI) ⟨ht, ht'⟩ ⟨hv, hv'⟩ H)))
  · exact pr_trees (q := 0) (c := c) (W := pr_wd a w c) (Or.inr ⟨rfl, rfl, fun t => t.1, fun al _ e => e ▸ pr_Gw hW⟩) (fun t _ _ _ _ _ _ _ _ _ _ _ _ ht ht' hK => pr_cost hK (fun v _ _ _ _ hv hv' => pr_top (pr_end ⟨fun t => absurd t hP, fun _ => rfl⟩ ⟨fun _ t => absurd t hP, fun _ _ => ⟨rfl, rfl⟩, fun t => absurd hW t, fun t => absurd hW t⟩ (pr_flT hI) ⟨ht, ht'⟩ ⟨hv, hv'⟩ H)))
  · exact pr_trees (q := 0) (c := c) (W := pr_wd a w c) (Or.inl ⟨rfl, hW⟩) (fun t _ _ _ _ _ _ _ _ _ _ _ _ ht ht' hK => pr_cost hK (fun v _ _ _ _ hv hv' => pr_top (pr_end ⟨fun _ => rfl, fun t => absurd ⟨hf, hp⟩ t⟩ ⟨fun t => absurd t hW, fun t => absurd t hW, fun _ _ => ⟨rfl, rfl⟩, fun _ t => absurd ⟨hf, hp⟩ t⟩ (pr_flF hI) ⟨ht, ht'⟩ ⟨hv, hv'⟩ H)))
  · exact pr_trees (q := 0) (c := c) (W := pr_wd a w c) (Or.inr ⟨rfl, rfl, fun t => t.1, fun al _ _ => pr_Gp hW (pr_sec hf)⟩) (fun t _ _ _ _ _ _ _ _ _ _ _ _ ht ht' hK => pr_cost hK (fun v _ _ _ _ hv hv' => pr_top (pr_end ⟨fun _ => rfl, fun t => absurd ⟨hf, hp⟩ t⟩ ⟨fun t => absurd t hW, fun t => absurd t hW, fun _ _ => ⟨rfl, rfl⟩, fun _ t => absurd ⟨hf, hp⟩ t⟩ (pr_flT hI) ⟨ht, ht'⟩ ⟨hv, hv'⟩ H)))
  · exact pr_trees (q := 1) (c := c) (W := pr_wd a w c) (Or.inr ⟨rfl, rfl, fun t => t.1, fun al _ e => e ▸ pr_Gpw hW (pr_sec hf)⟩) (fun t _ _ _ _ _ _ _ _ _ _ _ _ ht ht' hK => pr_cost hK (fun v _ _ _ _ hv hv' => pr_top (pr_end ⟨fun _ => rfl, fun t => absurd ⟨hf, hp⟩ t⟩ ⟨fun _ _ => ⟨rfl, rfl⟩, fun _ t => absurd ⟨hf, hp⟩ t, fun t => absurd hW t, fun t => absurd hW t⟩ (pr_flT hI) ⟨ht, ht'⟩ ⟨hv, hv'⟩ H)))
theorem pr_at {post : Int32 → Prop} {xs : Nat → Int32} {L : Nat} (j : Nat) (hj : j < 5) (hL : L ≤ 5) (H : ∀ v, post v) : wpL_cellAt post L xs () (nI j) :=
  pk_le L j (fun _ => H 0) (fun z => ⟨pk_in j L z, H _⟩)
theorem i_vc (xs : Nat → Int32) (L : Nat) (hL : L ≤ 5) : wpL_law (fun r => r = 1) L xs := by
  unfold wpL_law
  exact pr_at 0 (by decide) hL (fun x => pr_at 1 (by decide) hL (fun c => pr_at 2 (by decide) hL (fun a => pr_at 3 (by decide) hL (fun w => pr_at 4 (by decide) hL (fun k => ⟨778, 12432, by decide, by decide, pr_lawOf x c a w k rfl⟩)))))
end

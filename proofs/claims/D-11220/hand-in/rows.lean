section
/-! the pure rows: bits of a word, powers, clamped sizes -/
def sg_bit (s : Nat) : Int64 := (1 : Int64) <<< ((nI s &&& 63).toInt64 &&& 63)
def sg_rd (w : Int64) (s : Nat) : Int64 := (w.toUInt64 >>> ((nI s &&& 63).toInt64.toUInt64 &&& Int64.toUInt64 63)).toInt64 &&& 1
theorem sg_one : ∀ n, n < 7 → (1 : Int32) <<< (nI n &&& 31) = nI (2 ^ n) := by decide +kernel
theorem sg_pw4 : ∀ n, n < 5 → 2 ^ n ≤ 16 := by decide
theorem sg_pw6 : ∀ n, n < 7 → 2 ≤ n → 4 ≤ 2 ^ n ∧ 2 ^ n ≤ 64 := by decide
theorem sg_pw1 : ∀ n, n < 5 → 1 ≤ n → 2 ≤ 2 ^ n := by decide
theorem sg_shr6 {s : Nat} (h : s < 1024) : nI s >>> ((6 : Int32) &&& 31) = nI (s / 64) := pk_shrN (by omega) _ 6 (by decide)
theorem sg_shr4 {s : Nat} (h : s < 1024) : nI s >>> ((4 : Int32) &&& 31) = nI (s / 16) := pk_shrN (by omega) _ 4 (by decide)
theorem sg_and15 {s : Nat} (h : s < 1024) : nI s &&& 15 = nI (s % 16) := pk_andN (by omega) 4 (by decide)
theorem sg_and63 {s : Nat} (h : s < 1024) : nI s &&& 63 = nI (s % 64) := pk_andN (by omega) 6 (by decide)
theorem sg_sh16 : ∀ s, s < 1024 → (nI s).toInt16.toInt32 = nI s := by decide +kernel
theorem sg_st (m c : Nat) : 16 * nI m + nI c = nI (16 * m + c) := by
  rw [show (16 : Int32) = nI 16 from rfl, pk_mul, nI_add]
theorem sg_k_self : ∀ k, k < 64 → ¬ ((((1 : Int64) <<< ((nI k).toInt64 &&& 63)).toUInt64 >>> ((nI k).toInt64.toUInt64 &&& Int64.toUInt64 63)).toInt64 &&& 1) = 0 := by decide +kernel
theorem sg_k_16 : ∀ k, k < 64 → ¬ k = 16 → ((((1 : Int64) <<< ((nI k).toInt64 &&& 63)).toUInt64 >>> ((nI 16).toInt64.toUInt64 &&& Int64.toUInt64 63)).toInt64 &&& 1) = 0 := by decide +kernel
theorem sg_rd_self {s : Nat} (h : s < 1024) : ¬ sg_rd (sg_bit s) s = 0 := by
  unfold sg_rd sg_bit
  rw [sg_and63 h]
  exact sg_k_self (s % 64) (by omega)
theorem sg_rd_0 : sg_rd 0 16 = 0 := by decide +kernel
theorem sg_rd_16 {s : Nat} (h : s < 1024) (h6 : ¬ s % 64 = 16) : sg_rd (sg_bit s) 16 = 0 := by
  unfold sg_rd sg_bit
  rw [sg_and63 h, sg_and63 (show 16 < 1024 by decide)]
  exact sg_k_16 (s % 64) (by omega) h6
/-- the words after a walk from state s: its bit alone -/
def sg_W (s : Nat) (b : Nat → Int64) : Prop := ∀ k, k < 16 → b k = if k = s / 64 then sg_bit s else 0
theorem sg_W_self {s : Nat} {b : Nat → Int64} (h : sg_W s b) (hs : s < 1024) : ¬ sg_rd (b (s / 64)) s = 0 := by
  rw [h (s / 64) (by omega), if_pos rfl]
  exact sg_rd_self hs
theorem sg_W_16 {s : Nat} {b : Nat → Int64} (h : sg_W s b) (hs : s < 1024) (ne : ¬ s = 16) : sg_rd (b (16 / 64)) 16 = 0 := by
  rw [h (16 / 64) (by decide)]
  by_cases e : 16 / 64 = s / 64
  · rw [if_pos e]
    exact sg_rd_16 hs (by omega)
  · rw [if_neg e]
    exact sg_rd_0
theorem sg_up0 {f : Nat → Int32} {c k : Nat} (h : f k = 0) : upd f c (f c ||| 0) k = 0 := by
  by_cases e : k = c
  · rw [← e, pk_us, h]
    rfl
  · rw [pk_un e, h]
theorem sg_fill {f : Nat → Int32} {i j : Nat} (e : j = i) (h : ∀ k, k < i → f k = 0) : ∀ k, k < i + 1 → upd f j 0 k = 0 := by
  intro k hk
  rw [e]
  by_cases ek : k = i
  · rw [ek, pk_us]
  · rw [pk_un ek]
    exact h k (by omega)
theorem sg_fillL {f : Nat → Int64} {i j : Nat} (e : j = i) (h : ∀ k, k < i → f k = 0) : ∀ k, k < i + 1 → vp_updL f j 0 k = 0 := by
  intro k hk
  rw [e]
  by_cases ek : k = i
  · rw [ek, pk_uLs]
  · rw [pk_uLn ek]
    exact h k (by omega)
theorem sg_Wnew {f : Nat → Int64} {s : Nat} (h : ∀ k, k < 16 → f k = 0) : sg_W s (vp_updL f (s / 64) (sg_bit s)) := by
  intro k hk
  by_cases e : k = s / 64
  · rw [if_pos e, ← e, pk_uLs]
  · rw [if_neg e, pk_uLn e]
    exact h k hk
theorem sg_split {x y z : Int32} (h : x = 0) : ((x &&& (y ^^^ (-1))) >>> (z &&& 31)) &&& 1 = 0 := by
  rw [h, Int32.zero_and, Int32.zero_shiftRight, Int32.zero_and]
/-- the sizes as the class clamps them -/
def sg_cl (lo hi x : Int32) (n : Nat) : Prop := (lo ≤ x → x ≤ hi → x = nI n) ∧ (lo ≤ x → ¬ x ≤ hi → hi = nI n) ∧ (¬ lo ≤ x → lo = nI n)
/-- a marking and a code that fit -/
def sg_fit (p n : Nat) (x y : Int32) : Prop := ∃ m c : Nat, m < 2 ^ p ∧ c < 2 ^ n ∧ x = nI m ∧ y = nI c
/-- a marking and a code that don't -/
def sg_nof (p n : Nat) (x y : Int32) : Prop := x < 0 ∨ ¬ x < nI (2 ^ p) ∨ y < 0 ∨ ¬ y < nI (2 ^ n)
end
section
/-! the class, a lemma a method; no transition is ever fed, so tc = 0 -/
theorem sg_init {post : St2 → Prop} {x y : Int32} {p n : Nat} (hp : sg_cl 2 6 x p) (hn : sg_cl 1 4 y n)
    (H : ∀ b20 : Nat → Int32, post (nI p, nI n, 0, 0, 1, 0, 0, 0, 0, 0, 0, 0, 0, 0, 0, (fun _ => 0), (fun _ => 0), (fun _ => 0), (fun _ => 0), (fun _ => 0), (fun _ => 0), (fun _ => 0), (fun _ => 0), (fun _ => 0), (fun _ => 0), (fun _ => 0), (fun _ => 0), (fun _ => 0), (fun _ => 0), (fun _ => 0), (fun _ => 0), (fun _ => 0), (fun _ => 0), (fun _ => 0), b20, (fun _ => 0), (fun _ => 0))) :
    wpX_init post 22 1596 (0, 0, 0, 0, 0, 0, 0, 0, 0, 0, 0, 0, 0, 0, 0) x y := by
  have h2 : ∀ z : Int32, z = nI p → wX_init_198 post 22 1596 y z 22 1596 0 0 0 0 0 0 0 0 0 0 0 0 0 0 0 (fun _ => 0) (fun _ => 0) (fun _ => 0) (fun _ => 0) (fun _ => 0) (fun _ => 0) (fun _ => 0) (fun _ => 0) (fun _ => 0) (fun _ => 0) (fun _ => 0) (fun _ => 0) (fun _ => 0) (fun _ => 0) (fun _ => 0) (fun _ => 0) (fun _ => 0) (fun _ => 0) (fun _ => 0) (fun _ => 0) (fun _ => 0) (fun _ => 0) := by
    intro z ez
    have h1 : ∀ w : Int32, w = nI n → wX_init_221 post 22 1596 w 22 1596 z 0 0 0 0 0 0 0 0 0 0 0 0 0 0 (fun _ => 0) (fun _ => 0) (fun _ => 0) (fun _ => 0) (fun _ => 0) (fun _ => 0) (fun _ => 0) (fun _ => 0) (fun _ => 0) (fun _ => 0) (fun _ => 0) (fun _ => 0) (fun _ => 0) (fun _ => 0) (fun _ => 0) (fun _ => 0) (fun _ => 0) (fun _ => 0) (fun _ => 0) (fun _ => 0) (fun _ => 0) (fun _ => 0) := by
      intro w ew
      rw [ew, ez]
      exact nm_e (nm_e (nm_e (nm_e (H _))))
    exact br_c (fun a => br_c (fun b => h1 _ (hn.1 a b)) (fun b => h1 _ (hn.2.1 a b))) (fun a => h1 _ (hn.2.2 a))
  have h3 : (2 ≤ x → ((x ≤ 6 → wX_init_198 post 22 1596 y x 22 1596 0 0 0 0 0 0 0 0 0 0 0 0 0 0 0 (fun _ => 0) (fun _ => 0) (fun _ => 0) (fun _ => 0) (fun _ => 0) (fun _ => 0) (fun _ => 0) (fun _ => 0) (fun _ => 0) (fun _ => 0) (fun _ => 0) (fun _ => 0) (fun _ => 0) (fun _ => 0) (fun _ => 0) (fun _ => 0) (fun _ => 0) (fun _ => 0) (fun _ => 0) (fun _ => 0) (fun _ => 0) (fun _ => 0)) ∧ (¬ x ≤ 6 → wX_init_198 post 22 1596 y 6 22 1596 0 0 0 0 0 0 0 0 0 0 0 0 0 0 0 (fun _ => 0) (fun _ => 0) (fun _ => 0) (fun _ => 0) (fun _ => 0) (fun _ => 0) (fun _ => 0) (fun _ => 0) (fun _ => 0) (fun _ => 0) (fun _ => 0) (fun _ => 0) (fun _ => 0) (fun _ => 0) (fun _ => 0) (fun _ => 0) (fun _ => 0) (fun _ => 0) (fun _ => 0) (fun _ => 0) (fun _ => 0) (fun _ => 0)))) ∧ (¬ 2 ≤ x → wX_init_198 post 22 1596 y 2 22 1596 0 0 0 0 0 0 0 0 0 0 0 0 0 0 0 (fun _ => 0) (fun _ => 0) (fun _ => 0) (fun _ => 0) (fun _ => 0) (fun _ => 0) (fun _ => 0) (fun _ => 0) (fun _ => 0) (fun _ => 0) (fun _ => 0) (fun _ => 0) (fun _ => 0) (fun _ => 0) (fun _ => 0) (fun _ => 0) (fun _ => 0) (fun _ => 0) (fun _ => 0) (fun _ => 0) (fun _ => 0) (fun _ => 0)) :=
    br_c (fun a => br_c (fun b => h2 _ (hp.1 a b)) (fun b => h2 _ (hp.2.1 a b))) (fun a => h2 _ (hp.2.2 a))
  exact ⟨by decide, by decide, by decide, by decide, by decide, by decide, by decide, by decide, by decide, by decide, by decide, by decide, by decide, by decide, by decide, by decide, by decide, by decide, by decide, by decide, by decide, by decide, by decide, by decide, by decide, by decide, by decide, by decide, by decide, by decide, by decide, by decide, by decide, by decide, by decide, by decide, by decide, by decide, by decide, by decide, by decide, by decide, by decide, by decide, h3⟩
theorem sg_reach {post : St2 → Prop} {pc sc tc iq sm so vn st um im pt cd ci mt : Int32} {a1 a2 a3 a4 a6 a7 a8 a9 a10 a11 a12 a13 a14 a15 a16 a17 a18 a19 a20 a22 : Nat → Int32} {a5 a21 : Nat → Int64} {s : Nat} (hs : s < 1024) (h5 : a5 (s / 64) = 0)
    (H : post (pc, sc, tc, iq, sm, so, vn, st, um, im, 1, pt, cd, ci, mt, a1, a2, a3, a4, vp_updL a5 (s / 64) (sg_bit s), upd a6 0 (nI s), a7, a8, a9, a10, a11, a12, a13, a14, a15, a16, a17, a18, a19, a20, a21, a22)) : wpX_reach post (pc, sc, tc, iq, sm, so, vn, st, um, im, 0, pt, cd, ci, mt, a1, a2, a3, a4, a5, a6, a7, a8, a9, a10, a11, a12, a13, a14, a15, a16, a17, a18, a19, a20, a21, a22) (nI s) := by
  refine nm_e ?_
  rw [sg_shr6 hs, nI_clamp (show s / 64 < 2 ^ 31 by omega), h5]
  exact ⟨pk_in (s / 64) 16 (by omega), br_t Int64.zero_and ⟨pk_in (s / 64) 16 (by omega), pk_in (s / 64) 16 (by omega), nm_r (congrArg (vp_updL a5 (s / 64)) Int64.zero_or) ⟨pk_in 0 1024 (by decide), nm_r (e' := upd a6 0 (nI s)) (by rw [sg_sh16 s hs, sb_cl0]) (nm_r (e' := 1) (by decide) H)⟩⟩⟩
theorem sg_expand {post : St2 → Prop} {pc sc iq sm so vn st um im qe pt cd ci mt : Int32} {a1 a2 a3 a4 a6 a7 a8 a9 a10 a11 a12 a13 a14 a15 a16 a17 a18 a19 a20 a22 : Nat → Int32} {a5 a21 : Nat → Int64} {x1 : Int32} {c : Nat} (hc : c < 16)
    (H : ∀ b7 b8 b9 : Nat → Int32, (∀ k, k < 16 → a8 k = 0 → b8 k = 0) → post (pc, sc, 0, iq, sm, so, vn, st, um, im, qe, pt, cd, ci, mt, a1, a2, a3, a4, a5, a6, b7, b8, b9, a10, a11, a12, a13, a14, a15, a16, a17, a18, a19, a20, a21, a22)) :
    wpX_expand post (pc, sc, 0, iq, sm, so, vn, st, um, im, qe, pt, cd, ci, mt, a1, a2, a3, a4, a5, a6, a7, a8, a9, a10, a11, a12, a13, a14, a15, a16, a17, a18, a19, a20, a21, a22) x1 (nI c) :=
  ⟨0 + 1, br_t (by decide) ⟨pk_in c 16 hc, nm_e ⟨pk_in c 16 hc, pk_in c 16 hc, nm_e ⟨pk_in c 16 hc, pk_in c 16 hc, nm_e (H _ _ _ (fun k _ h => sg_up0 h))⟩⟩⟩⟩
theorem sg_w76 {post : St2 → Prop} {pc sc iq sm so vn st um im pt cd ci mt : Int32} {a1 a2 a3 a4 a6 a7 a8 a9 a10 a11 a12 a13 a14 a15 a16 a17 a18 a19 a20 a22 : Nat → Int32} {a5 a21 : Nat → Int64} {s : Nat} (hs : s < 1024) (h6 : a6 0 = nI s) (h8 : ∀ k, k < 16 → a8 k = 0)
    (H : ∀ b7 b8 b9 : Nat → Int32, (∀ k, k < 16 → b8 k = 0) → post (pc, sc, 0, iq, sm, so, vn, 1, um, im, 1, pt, cd, ci, mt, a1, a2, a3, a4, a5, a6, b7, b8, b9, a10, a11, a12, a13, a14, a15, a16, a17, a18, a19, a20, a21, a22)) :
    wX_walkNet_76 post (0 + 1 + 1) 0 pc sc 0 iq sm so vn st um im 1 pt cd ci mt a1 a2 a3 a4 a5 a6 a7 a8 a9 a10 a11 a12 a13 a14 a15 a16 a17 a18 a19 a20 a21 a22 := by
  refine br_f (by decide) (br_f (by decide) ⟨pk_in 0 1024 (by decide), nm_r (e' := nI s) h6 (nm_r (e' := 1) (by decide) ?_)⟩)
  rw [sg_shr4 hs, sg_and15 hs]
  exact sg_expand (by omega) (fun b7 b8 b9 h => br_t (by decide) (H b7 b8 b9 (fun k hk => h k hk (h8 k hk))))
theorem sg_walk {post : St2 → Prop} {pc sc iq vn st um im qe pt cd ci mt : Int32} {a1 a2 a3 a4 a6 a7 a8 a9 a10 a11 a12 a13 a14 a15 a16 a17 a18 a19 a20 a22 : Nat → Int32} {a5 a21 : Nat → Int64} {m c : Nat} (hs : 16 * m + c < 1024)
    (H : ∀ (b5 : Nat → Int64) (b6 b7 b8 b9 : Nat → Int32), sg_W (16 * m + c) b5 → (∀ k, k < 16 → b8 k = 0) → post (pc, sc, 0, iq, nI m, nI c, vn, 1, 0, 0, 1, pt, cd, ci, mt, a1, a2, a3, a4, b5, b6, b7, b8, b9, a10, a11, a12, a13, a14, a15, a16, a17, a18, a19, a20, a21, a22)) :
    wpX_walkNet post (pc, sc, 0, iq, nI m, nI c, vn, st, um, im, qe, pt, cd, ci, mt, a1, a2, a3, a4, a5, a6, a7, a8, a9, a10, a11, a12, a13, a14, a15, a16, a17, a18, a19, a20, a21, a22) :=
  pk_loop (σ := (Nat → Int64) × (Nat → Int32) × (Nat → Int32) × (Nat → Int32))
    (fun n i s => wX_walkNet_2 post pc sc 0 iq (nI m) (nI c) vn st um im qe pt cd ci mt n (nI i) a1 a2 a3 a4 s.1 a6 s.2.1 s.2.2.1 s.2.2.2 a10 a11 a12 a13 a14 a15 a16 a17 a18 a19 a20 a21 a22)
    (fun i s => (∀ k, k < i → s.1 k = 0) ∧ (∀ k, k < i → s.2.2.1 k = 0)) 16 0 (a5, a7, a8, a9) (by omega)
    ⟨fun k h => absurd h (by omega), fun k h => absurd h (by omega)⟩
    (fun n s h => pk_le 16 16 (fun _ => by
      rw [sg_st m c]
      exact sg_reach hs (h.1 _ (by omega)) ⟨0 + 1 + 1, sg_w76 hs pk_us h.2 (fun b7 b8 b9 h8 => H _ _ b7 b8 b9 (sg_Wnew h.1) h8)⟩) (fun z => absurd z (by omega)))
    (fun n i s hi h hw => pk_le 16 i (fun z => absurd z (by omega)) (fun _ => ⟨pk_in i 16 hi, nm_e ⟨pk_in i 16 hi, nm_e ⟨pk_in i 16 hi, nm_e ⟨pk_in i 16 hi, nm_e (nm_r (nI_1 i) (hw (_, _, _, _) ⟨sg_fillL (nI_clamp (by omega)) h.1, sg_fill (nI_clamp (by omega)) h.2⟩))⟩⟩⟩⟩))
theorem sg_c39 {post : Int32 → Prop} {J : Int32 → Prop} {x1 x2 : Int32} {pc tc iq sm so vn st um im qe pt cd ci mt : Int32} {a1 a2 a3 a4 a6 a7 a8 a9 a10 a11 a12 a13 a14 a15 a16 a17 a18 a19 a20 a22 : Nat → Int32} {a5 a21 : Nat → Int64} {n : Nat} (hn : n < 5) (h8 : ∀ k, k < 16 → a8 k = 0) (H : J (x2 + 1)) :
    ∃ f, wX_firstConflict_39 post J x1 x2 pc (nI n) tc iq sm so vn st um im qe pt cd ci mt a1 a2 a3 a4 a5 a6 a7 a8 a9 a10 a11 a12 a13 a14 a15 a16 a17 a18 a19 a20 a21 a22 f 0 := by
  have e1 := sg_one n (by omega)
  have h16 := sg_pw4 n hn
  exact pk_loop (σ := Unit) (fun f i _ => wX_firstConflict_39 post J x1 x2 pc (nI n) tc iq sm so vn st um im qe pt cd ci mt a1 a2 a3 a4 a5 a6 a7 a8 a9 a10 a11 a12 a13 a14 a15 a16 a17 a18 a19 a20 a21 a22 f (nI i)) (fun _ _ => True) (2 ^ n) 0 () (Nat.zero_le _) trivial
    (fun f _ _ => pk_le (2 ^ n) (2 ^ n) (fun _ => nm_e H) (fun z => absurd z (by omega)) e1)
    (fun f i _ hi _ hw => pk_le (2 ^ n) i (fun z => absurd z (by omega)) (fun _ => ⟨pk_in i 16 (by omega), pk_in i 16 (by omega), nm_r (e' := 0) (sg_split (by rw [nI_clamp (show i < 2 ^ 31 by omega)]; exact h8 i (by omega))) ⟨pk_in i 16 (by omega), br_c (fun _ => nm_r (nI_1 i) (hw () trivial)) (fun _ => br_t rfl (nm_r (nI_1 i) (hw () trivial)))⟩⟩) e1)
theorem sg_conf {post : Int32 → Prop} {pc tc iq sm so vn st um im qe pt cd ci mt : Int32} {a1 a2 a3 a4 a6 a7 a8 a9 a10 a11 a12 a13 a14 a15 a16 a17 a18 a19 a20 a22 : Nat → Int32} {a5 a21 : Nat → Int64} {n : Nat} (hn : n < 5) (h8 : ∀ k, k < 16 → a8 k = 0) (H : post (-1)) :
    wpX_firstConflict post (pc, nI n, tc, iq, sm, so, vn, st, um, im, qe, pt, cd, ci, mt, a1, a2, a3, a4, a5, a6, a7, a8, a9, a10, a11, a12, a13, a14, a15, a16, a17, a18, a19, a20, a21, a22) :=
  nm_e (pk_loop (σ := Unit) (fun f i _ => wX_firstConflict_18 post ((iq ^^^ (-1)) &&& (((1 : Int32) <<< (nI n &&& 31)) - 1)) pc (nI n) tc iq sm so vn st um im qe pt cd ci mt a1 a2 a3 a4 a5 a6 a7 a8 a9 a10 a11 a12 a13 a14 a15 a16 a17 a18 a19 a20 a21 a22 f (nI i)) (fun _ _ => True) n 0 () (by omega) trivial
    (fun f _ _ => pk_le n n (fun _ => H) (fun z => absurd z (by omega)))
    (fun f i _ hi _ hw => pk_le n i (fun z => absurd z (by omega)) (fun _ => br_c (fun _ => nm_r (nI_1 i) (hw () trivial)) (fun _ => sg_c39 hn h8 (by rw [nI_1]; exact hw () trivial)))))
theorem sg_explore {post : Int32 → St2 → Prop} {pc iq st um im qe pt cd ci mt : Int32} {a1 a2 a3 a4 a6 a7 a8 a9 a10 a11 a12 a13 a14 a15 a16 a17 a18 a19 a20 a22 : Nat → Int32} {a5 a21 : Nat → Int64} {n m c : Nat} (hn : n < 5) (hs : 16 * m + c < 1024)
    (H : ∀ (b5 : Nat → Int64) (b6 b7 b8 b9 : Nat → Int32), sg_W (16 * m + c) b5 → post 1 (pc, nI n, 0, iq, nI m, nI c, 1, 1, 0, 0, 1, pt, cd, ci, mt, a1, a2, a3, a4, b5, b6, b7, b8, b9, a10, a11, a12, a13, a14, a15, a16, a17, a18, a19, a20, a21, a22)) :
    wpX_explore post (pc, nI n, 0, iq, nI m, nI c, 0, st, um, im, qe, pt, cd, ci, mt, a1, a2, a3, a4, a5, a6, a7, a8, a9, a10, a11, a12, a13, a14, a15, a16, a17, a18, a19, a20, a21, a22) :=
  br_t rfl (sg_walk hs (fun b5 b6 b7 b8 b9 h5 h8 => br_t rfl (br_t rfl (sg_conf hn h8 (br_t (by decide) (H b5 b6 b7 b8 b9 h5))))))
theorem sg_explore1 {post : Int32 → St2 → Prop} {pc sc tc iq sm so st um im qe pt cd ci mt : Int32} {a1 a2 a3 a4 a6 a7 a8 a9 a10 a11 a12 a13 a14 a15 a16 a17 a18 a19 a20 a22 : Nat → Int32} {a5 a21 : Nat → Int64} (H : post 1 (pc, sc, tc, iq, sm, so, 1, st, um, im, qe, pt, cd, ci, mt, a1, a2, a3, a4, a5, a6, a7, a8, a9, a10, a11, a12, a13, a14, a15, a16, a17, a18, a19, a20, a21, a22)) : wpX_explore post (pc, sc, tc, iq, sm, so, 1, st, um, im, qe, pt, cd, ci, mt, a1, a2, a3, a4, a5, a6, a7, a8, a9, a10, a11, a12, a13, a14, a15, a16, a17, a18, a19, a20, a21, a22) :=
  br_f (by decide) H
theorem sg_isr {post : Int32 → Prop} {tc iq sm so st um im qe pt cd ci mt : Int32} {a1 a2 a3 a4 a6 a7 a8 a9 a10 a11 a12 a13 a14 a15 a16 a17 a18 a19 a20 a22 : Nat → Int32} {a5 a21 : Nat → Int64} {p n m c : Nat} (hp : p < 7) (hn : n < 5) (hm : m < 2 ^ p) (hc : c < 2 ^ n) (hs : 16 * m + c < 1024)
    (H0 : sg_rd (a5 ((16 * m + c) / 64)) (16 * m + c) = 0 → post 0) (H1 : ¬ sg_rd (a5 ((16 * m + c) / 64)) (16 * m + c) = 0 → post 1) :
    wpX_isReachable post (nI p, nI n, tc, iq, sm, so, 1, st, um, im, qe, pt, cd, ci, mt, a1, a2, a3, a4, a5, a6, a7, a8, a9, a10, a11, a12, a13, a14, a15, a16, a17, a18, a19, a20, a21, a22) (nI m) (nI c) := by
  refine br_f (by decide) (br_f (nI_pos (by omega)) (pk_lt m (2 ^ p) (fun _ => br_f (nI_pos (by omega)) (pk_lt c (2 ^ n) (fun _ => nm_r (sg_st m c) ?_) (fun z => absurd z (by omega)) rfl (sg_one n (by omega)) (by omega) (by have := sg_pw4 n hn; omega))) (fun z => absurd z (by omega)) rfl (sg_one p hp) (by omega) (by
    have : ∀ n, n < 7 → 2 ^ n < 2 ^ 31 := by decide
    exact this p hp)))
  rw [sg_shr6 hs, nI_clamp (show (16 * m + c) / 64 < 2 ^ 31 by omega)]
  exact ⟨pk_in ((16 * m + c) / 64) 16 (by omega), br_c H0 H1⟩
theorem sg_isr0 {post : Int32 → Prop} {pc sc tc iq sm so st um im qe pt cd ci mt : Int32} {a1 a2 a3 a4 a6 a7 a8 a9 a10 a11 a12 a13 a14 a15 a16 a17 a18 a19 a20 a22 : Nat → Int32} {a5 a21 : Nat → Int64} {x y : Int32} (H : post 0) : wpX_isReachable post (pc, sc, tc, iq, sm, so, 0, st, um, im, qe, pt, cd, ci, mt, a1, a2, a3, a4, a5, a6, a7, a8, a9, a10, a11, a12, a13, a14, a15, a16, a17, a18, a19, a20, a21, a22) x y := br_t rfl H
theorem sg_isrN {post : Int32 → Prop} {tc iq sm so vn st um im qe pt cd ci mt : Int32} {a1 a2 a3 a4 a6 a7 a8 a9 a10 a11 a12 a13 a14 a15 a16 a17 a18 a19 a20 a22 : Nat → Int32} {a5 a21 : Nat → Int64} {p n : Nat} {x y : Int32} (hp : p < 7) (hn : n < 5) (h : sg_nof p n x y) (H : post 0) :
    wpX_isReachable post (nI p, nI n, tc, iq, sm, so, vn, st, um, im, qe, pt, cd, ci, mt, a1, a2, a3, a4, a5, a6, a7, a8, a9, a10, a11, a12, a13, a14, a15, a16, a17, a18, a19, a20, a21, a22) x y := by
  refine br_c (fun _ => H) (fun _ => br_c (fun _ => H) (fun a => br_c (fun b => br_c (fun _ => H) (fun d => br_c (fun e => ?_) (fun _ => H))) (fun _ => H)))
  rw [sg_one p hp] at b
  rw [sg_one n (by omega)] at e
  rcases h with h | h | h | h
  · exact absurd h a
  · exact absurd b h
  · exact absurd h d
  · exact absurd e h
theorem sg_set {post : Int32 → St2 → Prop} {tc iq sm so vn st um im qe pt cd ci mt : Int32} {a1 a2 a3 a4 a6 a7 a8 a9 a10 a11 a12 a13 a14 a15 a16 a17 a18 a19 a20 a22 : Nat → Int32} {a5 a21 : Nat → Int64} {p n m c : Nat} (hp : p < 7) (hn : n < 5) (hm : m < 2 ^ p) (hc : c < 2 ^ n) (hs : 16 * m + c < 1024)
    (H : post 1 (nI p, nI n, tc, iq, nI m, nI c, 0, st, um, im, qe, pt, 0, 0, mt, a1, a2, a3, a4, a5, a6, a7, a8, a9, a10, a11, a12, a13, a14, a15, a16, a17, a18, a19, a20, a21, a22)) : wpX_setStart post (nI p, nI n, tc, iq, sm, so, vn, st, um, im, qe, pt, cd, ci, mt, a1, a2, a3, a4, a5, a6, a7, a8, a9, a10, a11, a12, a13, a14, a15, a16, a17, a18, a19, a20, a21, a22) (nI m) (nI c) :=
  br_f (nI_pos (by omega)) (pk_lt m (2 ^ p) (fun _ => br_f (nI_pos (by omega)) (pk_lt c (2 ^ n) (fun _ => H) (fun z => absurd z (by omega)) rfl (sg_one n (by omega)) (by omega) (by have := sg_pw4 n hn; omega))) (fun z => absurd z (by omega)) rfl (sg_one p hp) (by omega) (by
    have : ∀ n, n < 7 → 2 ^ n < 2 ^ 31 := by decide
    exact this p hp))
theorem sg_setN {post : Int32 → St2 → Prop} {tc iq sm so vn st um im qe pt cd ci mt : Int32} {a1 a2 a3 a4 a6 a7 a8 a9 a10 a11 a12 a13 a14 a15 a16 a17 a18 a19 a20 a22 : Nat → Int32} {a5 a21 : Nat → Int64} {p n : Nat} {x y : Int32} (hp : p < 7) (hn : n < 5) (h : sg_nof p n x y)
    (H : post 0 (nI p, nI n, tc, iq, sm, so, vn, st, um, im, qe, pt, cd, ci, mt, a1, a2, a3, a4, a5, a6, a7, a8, a9, a10, a11, a12, a13, a14, a15, a16, a17, a18, a19, a20, a21, a22)) : wpX_setStart post (nI p, nI n, tc, iq, sm, so, vn, st, um, im, qe, pt, cd, ci, mt, a1, a2, a3, a4, a5, a6, a7, a8, a9, a10, a11, a12, a13, a14, a15, a16, a17, a18, a19, a20, a21, a22) x y := by
  refine br_c (fun _ => H) (fun a => br_c (fun b => br_c (fun _ => H) (fun d => br_c (fun e => ?_) (fun _ => H))) (fun _ => H))
  rw [sg_one p hp] at b
  rw [sg_one n (by omega)] at e
  rcases h with h | h | h | h
  · exact absurd h a
  · exact absurd b h
  · exact absurd h d
  · exact absurd e h
end
section
/-! the law -/
theorem sg_law73 {post : Int32 → St0 → Prop} {x0 x1 x2 x3 z0 : Int32} {p n : Nat} (hp : sg_cl 2 6 x0 p) (hn : sg_cl 1 4 x1 n) (hp2 : 2 ≤ p) (hp6 : p < 7) (hn1 : 1 ≤ n) (hn4 : n < 5)
    (hz : (z0 = 1 ∧ sg_fit p n x2 x3) ∨ (z0 = 0 ∧ sg_nof p n x2 x3)) (H : post 1 ()) : wL_lawOf_73 post 23 1633 x0 x1 x2 x3 z0 0 0 := by
  have q4 := sg_pw6 p hp6 hp2
  have q1 := sg_pw1 n hn4 hn1
  have q16 := sg_pw4 n hn4
  refine ⟨by decide, by decide, 22, 1596, by decide, by decide, sg_init hp hn (fun b20 => ?_)⟩
  refine sg_explore (m := 1) (c := 0) hn4 (by decide) (fun b5 b6 b7 b8 b9 h5 => br_t rfl ?_)
  refine sg_isr (m := 1) (c := 0) hp6 hn4 (by omega) (by omega) (by decide) (fun z => absurd z (sg_W_self h5 (by decide))) (fun _ => br_f (by decide) ?_)
  rcases hz with ⟨e0, m, c, hm, hc, e2, e3⟩ | ⟨e0, hf⟩
  · subst e0 e2 e3
    have hs : 16 * m + c < 1024 := by omega
    refine sg_set hp6 hn4 hm hc hs (br_t rfl (br_f (by decide) (br_t rfl (sg_isr0 (br_f (by decide) (br_t rfl ?_))))))
    refine sg_explore hn4 hs (fun d5 d6 d7 d8 d9 g5 => br_t rfl (br_f (by decide) (br_t rfl ?_)))
    refine sg_isr hp6 hn4 hm hc hs (fun z => absurd z (sg_W_self g5 hs)) (fun _ => br_t rfl ?_)
    refine sg_isr (m := 1) (c := 0) hp6 hn4 (by omega) (by omega) (by decide) (fun z => ?_) (fun z => ?_)
    · refine br_f (by decide) (pk_eq m 1 (fun e => pk_eq c 0 (fun e' => ?_) (fun e' => br_t rfl H)) (fun e => br_t rfl H))
      subst e e'
      exact absurd z (sg_W_self g5 hs)
    · refine br_f (by decide) (pk_eq m 1 (fun e => pk_eq c 0 (fun e' => br_t rfl H) (fun e' => ?_)) (fun e => ?_))
      · exact absurd (sg_W_16 g5 hs (by omega)) z
      · exact absurd (sg_W_16 g5 hs (by omega)) z
  · subst e0
    refine sg_setN hp6 hn4 hf (br_t rfl (br_t rfl (br_t rfl ?_)))
    refine sg_isr (m := 1) (c := 0) hp6 hn4 (by omega) (by omega) (by decide) (fun z => absurd z (sg_W_self h5 (by decide))) (fun _ => br_t rfl (br_t rfl ?_))
    refine sg_explore1 (br_t rfl (br_f (by decide) (br_t rfl ?_)))
    refine sg_isrN hp6 hn4 hf (br_t rfl ?_)
    exact sg_isr (m := 1) (c := 0) hp6 hn4 (by omega) (by omega) (by decide) (fun z => absurd z (sg_W_self h5 (by decide))) (fun _ => br_t rfl (br_t rfl H))
theorem sg_law42 {post : Int32 → St0 → Prop} {x0 x1 x2 x3 : Int32} {p n : Nat} (hp : sg_cl 2 6 x0 p) (hn : sg_cl 1 4 x1 n) (hp2 : 2 ≤ p) (hp6 : p < 7) (hn1 : 1 ≤ n) (hn4 : n < 5)
    (H : post 1 ()) : wL_lawOf_42 post 23 1633 x0 x1 x2 x3 (nI p) (nI n) 0 0 := by
  have q4 := sg_pw6 p hp6 hp2
  have q16 := sg_pw4 n hn4
  have N : sg_nof p n x2 x3 → wL_lawOf_73 post 23 1633 x0 x1 x2 x3 0 0 0 := fun h => sg_law73 hp hn hp2 hp6 hn1 hn4 (Or.inr ⟨rfl, h⟩) H
  unfold wL_lawOf_42
  rw [sg_one p hp6, sg_one n (by omega)]
  refine br_c (fun a => N (Or.inl a)) (fun a => br_c (fun b => N (Or.inr (Or.inl (Int32.not_lt.mpr b)))) (fun b => br_c (fun d => N (Or.inr (Or.inr (Or.inl d)))) (fun d => br_c (fun e => N (Or.inr (Or.inr (Or.inr (Int32.not_lt.mpr e))))) (fun e => ?_))))
  obtain ⟨m, hm, em⟩ := nI_of a
  obtain ⟨c, hc, ec⟩ := nI_of d
  rw [em, nI_leI (by omega) hm] at b
  rw [ec, nI_leI (by omega) hc] at e
  exact sg_law73 hp hn hp2 hp6 hn1 hn4 (Or.inl ⟨rfl, m, c, by omega, by omega, em, ec⟩) H
theorem sg_cls (lo hi : Nat) (hl : lo ≤ hi) (hh : hi < 2 ^ 31) (x : Int32) : ∃ n, lo ≤ n ∧ n ≤ hi ∧ sg_cl (nI lo) (nI hi) x n := by
  by_cases a : nI lo ≤ x
  · by_cases b : x ≤ nI hi
    · have h0 : ¬ x < 0 := Int32.not_lt.mpr (Int32.le_trans (nI_pos' (by omega)) a)
      obtain ⟨j, hj, e⟩ := nI_of h0
      have a' := a
      have b' := b
      rw [e, nI_leI (by omega) hj] at a'
      rw [e, nI_leI hj hh] at b'
      exact ⟨j, a', b', fun _ _ => e, fun _ g => absurd b g, fun g => absurd a g⟩
    · exact ⟨hi, hl, Nat.le_refl _, fun _ g => absurd g b, fun _ _ => rfl, fun g => absurd a g⟩
  · exact ⟨lo, Nat.le_refl _, hl, fun g => absurd g a, fun g => absurd g a, fun _ => rfl⟩
theorem sg_lawOf {post : Int32 → St0 → Prop} (x0 x1 x2 x3 : Int32) (H : post 1 ()) : wpL_lawOf post 23 1633 () x0 x1 x2 x3 := by
  obtain ⟨p, hp2, hp6, hp⟩ := sg_cls 2 6 (by decide) (by decide) x0
  obtain ⟨n, hn1, hn4, hn⟩ := sg_cls 1 4 (by decide) (by decide) x1
  have h42 : ∀ z w : Int32, z = nI p → w = nI n → wL_lawOf_42 post 23 1633 x0 x1 x2 x3 z w 0 0 := by
    intro z w ez ew
    rw [ez, ew]
    exact sg_law42 hp hn hp2 (by omega) hn1 (by omega) H
  have h21 : ∀ z : Int32, z = nI p → wL_lawOf_21 post 23 1633 x0 x1 x2 x3 z 0 0 := fun z ez =>
    br_c (fun a => br_c (fun b => h42 _ _ ez (hn.1 a b)) (fun b => h42 _ _ ez (hn.2.1 a b))) (fun a => h42 _ _ ez (hn.2.2 a))
  exact br_c (fun a => br_c (fun b => h21 _ (hp.1 a b)) (fun b => h21 _ (hp.2.1 a b))) (fun a => h21 _ (hp.2.2 a))
theorem sg_cell {post : Int32 → Prop} {L : Nat} {xs : Nat → Int32} (hL : L ≤ 4) (i : Nat) (hi : i < 4) (H : ∀ r, post r) : wpL_cellAt post L xs () (nI i) :=
  pk_le L i (fun _ => H _) (fun z => ⟨pk_in i L z, H _⟩)
theorem i_vc (xs : Nat → Int32) (L : Nat) (hL : L ≤ 4) : wpL_law (fun r => r = 1) L xs :=
  sg_cell hL 0 (by decide) (fun r1 => sg_cell hL 1 (by decide) (fun r2 => sg_cell hL 2 (by decide) (fun r3 => sg_cell hL 3 (by decide) (fun r4 => ⟨23, 1633, by decide, by decide, sg_lawOf r1 r2 r3 r4 rfl⟩))))
end

section
/-- the start matrix over N events, cell k -/
def dt_s (N : Nat) (k : Nat) : Int32 := if k / 5 = k % 5 then 0 else if k / 5 = N then 0 else 7
theorem dt_fill {f s : Nat → Int32} {i k : Nat} {x : Int32} (hk : k = i) (h : ∀ j, j < i → s j = f j) (hx : x = f i) : ∀ j, j < i + 1 → upd s k x j = f j := by
  intro j hj
  rw [hk]
  by_cases e : j = i
  · rw [e, pk_us, hx]
  · rw [pk_un e]
    exact h j (by omega)
theorem dt_fill2 {f s : Nat → Int32} {i k : Nat} {x y : Int32} (hk : k = i) (h : ∀ j, j < i → s j = f j) (hx : x = f i) : ∀ j, j < i + 1 → upd (upd s k y) k x j = f j := by
  intro j hj
  rw [hk]
  by_cases e : j = i
  · rw [e, pk_us, hx]
  · rw [pk_un e, pk_un e]
    exact h j (by omega)
theorem dt_nar0 : narrow .boolean (.int 0) = .int 0 := congrArg Value.int (by decide)
theorem dt_nar1 : narrow .boolean (.int 1) = .int 1 := congrArg Value.int (by decide)
theorem dt_m (c d i : Nat) : nI c * nI d + nI i = nI (c * d + i) := by
  rw [pk_mul, nI_add]
theorem dt_m2 (c d e i : Nat) : nI c * nI d + nI e + nI i = nI (c * d + e + i) := by
  rw [pk_mul, nI_add, nI_add]
theorem dt_m3 (b c d i : Nat) : nI b + nI c * nI d + nI i = nI (b + c * d + i) := by
  rw [pk_mul, nI_add, nI_add]
section
variable {f0 f1 f2 f3 f4 f5 f6 : Int32} {a1 a2 a3 a4 a5 a6 a7 a8 a9 a10 : Nat → Int32}
theorem dt_open7 {post : St2 → Prop} {N : Nat} (hN : N ≤ 4) (H : ∀ b : Nat → Int32, (∀ j, j < 25 → b j = dt_s N j) → post (nI N, f1, f2, f3, f4, f5, f6, a1, a2, a3, a4, a5, a6, a7, b, a9, a10)) : ∃ n, wX_openStart_7 post (nI N) f1 f2 f3 f4 f5 f6 n 0 a1 a2 a3 a4 a5 a6 a7 a8 a9 a10 :=
  pk_loop (fun n i s => wX_openStart_7 post (nI N) f1 f2 f3 f4 f5 f6 n (nI i) a1 a2 a3 a4 a5 a6 a7 s a9 a10) (fun i s => ∀ j, j < i → s j = dt_s N j) 25 0 a8 (by omega) (fun j hj => absurd hj (by omega))
    (fun n s h => pk_le 25 25 (fun _ => H s h) (fun z => absurd z (by omega)))
    (fun n i s hi h hw => pk_le 25 i (fun z => absurd z (by omega)) (fun _ => ⟨by decide, nm_r (e' := nI (i / 5)) (pk_div (d := 5) (by omega) (by omega) (by omega)) ⟨by decide, nm_r (e' := nI (i % 5)) (pk_rem (d := 5) (by omega) (by omega) (by omega)) ⟨pk_in i 25 hi, nm_e
      (pk_eq (i / 5) (i % 5)
        (fun e => ⟨pk_in i 25 hi, nm_e (nm_r (nI_1 i) (hw _ (dt_fill2 (nI_clamp (by omega)) h (by unfold dt_s; rw [if_pos e]))))⟩)
        (fun e => pk_eq (i / 5) N
          (fun e2 => ⟨pk_in i 25 hi, nm_e (nm_r (nI_1 i) (hw _ (dt_fill2 (nI_clamp (by omega)) h (by unfold dt_s; rw [if_neg e, if_pos e2]))))⟩)
          (fun e2 => nm_r (nI_1 i) (hw _ (dt_fill (nI_clamp (by omega)) h (by unfold dt_s; rw [if_neg e, if_neg e2]))))))⟩⟩⟩))
theorem dt_open {post : St2 → Prop} {N : Nat} (hN : N ≤ 4) (H : ∀ b : Nat → Int32, (∀ j, j < 25 → b j = dt_s N j) → post (nI N, f1, f2, f3, f4, 0, f6, a1, a2, a3, a4, a5, a6, a7, b, a9, a10)) : wpX_openStart post (nI N, f1, f2, f3, f4, f5, f6, a1, a2, a3, a4, a5, a6, a7, a8, a9, a10) :=
  dt_open7 hN H
theorem dt_copy {post : St2 → Prop} {d : Nat} (hd : d ≤ 7) (H : ∀ b : Nat → Int32, post (f0, f1, f2, f3, f4, f5, f6, a1, a2, a3, a4, a5, a6, a7, a8, b, a10)) : wpX_copyOn post (f0, f1, f2, f3, f4, f5, f6, a1, a2, a3, a4, a5, a6, a7, a8, a9, a10) (nI d) :=
  pk_loop (fun n i s => wX_copyOn_2 post (nI d) f0 f1 f2 f3 f4 f5 f6 n (nI i) a1 a2 a3 a4 a5 a6 a7 a8 s a10) (fun _ _ => True) 25 0 a9 (by omega) trivial
    (fun n s _ => pk_le 25 25 (fun _ => H s) (fun z => absurd z (by omega)))
    (fun n i s hi _ hw => pk_le 25 i (fun z => absurd z (by omega)) (fun _ => ⟨pk_in (25 * d + i) 225 (by omega) (dt_m 25 d i), pk_in (25 * d + 25 + i) 225 (by omega) (dt_m2 25 d 25 i), nm_e (nm_r (nI_1 i) (hw _ trivial))⟩))
theorem dt_tight {post : St2 → Prop} {i j : Nat} {p k : Int32} (hp : p = nI 1) (hi : i ≤ 4) (hj : j ≤ 4) (H : ∀ b : Nat → Int32, post (f0, f1, f2, f3, f4, f5, f6, a1, a2, a3, a4, a5, a6, a7, a8, b, a10)) : wpX_tighten post (f0, f1, f2, f3, f4, f5, f6, a1, a2, a3, a4, a5, a6, a7, a8, a9, a10) p (nI i) (nI j) k :=
  nm_r (e' := nI 25) (by rw [hp]; decide) (nm_r (e' := nI 0) (by decide)
    (pk_loop (fun n t s => wX_tighten_16 post (nI i) (nI j) k (nI 25) (nI 0) f0 f1 f2 f3 f4 f5 f6 n (nI t) a1 a2 a3 a4 a5 a6 a7 a8 s a10) (fun _ _ => True) 25 0 a9 (by omega) trivial
      (fun n s _ => pk_le 25 25 (fun _ => H s) (fun z => absurd z (by omega)))
      (fun n t s ht _ hw => pk_le 25 t (fun z => absurd z (by omega)) (fun _ => ⟨by decide, nm_r (e' := nI (t / 5)) (pk_div (d := 5) (by omega) (by omega) (by omega)) ⟨by decide, nm_r (e' := nI (t % 5)) (pk_rem (d := 5) (by omega) (by omega) (by omega))
        ⟨pk_in (0 + 5 * (t / 5) + i) 225 (by omega) (dt_m3 0 5 (t / 5) i), pk_in (0 + 5 * j + t % 5) 225 (by omega) (dt_m3 0 5 j (t % 5)), nm_e ⟨pk_in (25 + t) 225 (by omega) (nI_add 25 t),
          br_c (fun _ => nm_r (nI_1 t) (hw _ trivial)) (fun _ => ⟨pk_in (25 + t) 225 (by omega) (nI_add 25 t), nm_e (nm_r (nI_1 t) (hw _ trivial))⟩)⟩⟩⟩⟩))))
end
end
section
section
variable {f0 f1 f2 f3 f4 f5 f6 : Int32} {a1 a2 a3 a4 a5 a6 a7 a8 a9 a10 : Nat → Int32}
/-- goOn at depth 0 over one constraint of one comparison, its second loop -/
theorem dt_145 {post : Int32 → St2 → Prop} {i j : Nat} {k : Int32} (hi : i ≤ 4) (hj : j ≤ 4) (h1 : a1 0 = nI i) (h2 : a2 0 = nI j) (h3 : a3 0 = k) (ht : a10 0 = 0)
    (H1 : ¬ a9 (5 * j + i) + k < 0 → ∀ b c : Nat → Int32, post 1 (f0, f1, f2, f3, f4, f5, f6, a1, a2, a3, a4, a5, a6, a7, a8, b, c))
    (H0 : a9 (5 * j + i) + k < 0 → ∀ b c : Nat → Int32, post 0 (f0, f1, f2, f3, f4, f5, f6, a1, a2, a3, a4, a5, a6, a7, a8, b, c)) :
    ∃ n, wX_goOn_145 post 0 (nI 0) 1 f0 f1 f2 f3 f4 f5 f6 n 0 a1 a2 a3 a4 a5 a6 a7 a8 a9 a10 := by
  refine ⟨0 + 1 + 1, pk_le 3 0 (fun z => absurd z (by omega)) (fun _ => ⟨pk_in 0 9 (by omega), ?_⟩)⟩
  rw [sb_cl0, ht]
  refine br_f (by decide) ⟨pk_in 0 9 (by omega), nm_r (e' := 0) (by decide) ⟨pk_in 0 9 (by omega), pk_in 0 9 (by omega), nm_e ⟨pk_in 0 24 (by omega), pk_in 0 24 (by omega), ?_⟩⟩⟩
  rw [sb_cl0, h1, h2, h3]
  have e : nI 0 + 5 * nI j + nI i = nI (5 * j + i) := by
    have e' := dt_m3 0 5 j i
    rw [Nat.zero_add] at e'
    exact e'
  rw [e, nI_clamp (show 5 * j + i < 2 ^ 31 by omega)]
  refine ⟨pk_in (5 * j + i) 225 (by omega), pk_in 0 24 (by omega), br_c (fun c => nm_r (e' := nI 1) (by decide) (pk_le 3 1 (fun z => absurd z (by omega)) (fun _ => ⟨pk_in 0 9 (by omega), ?_⟩))) (fun c => ?_)⟩
  · rw [sb_cl0, pk_us]
    exact br_t (by decide) (H0 c _ _)
  · refine dt_copy (d := 0) (by omega) (fun b => ⟨pk_in 0 24 (by omega), pk_in 0 24 (by omega), pk_in 0 24 (by omega), ?_⟩)
    rw [h1, h2, h3]
    exact dt_tight (by decide) hi hj (fun b' => H1 c b' _)
theorem dt_44 {post : Int32 → St2 → Prop} {i j : Nat} {k : Int32} (hi : i ≤ 4) (hj : j ≤ 4) (h1 : a1 0 = nI i) (h2 : a2 0 = nI j) (h3 : a3 0 = k) (ht : a10 0 = 0)
    (H1 : (¬ k < a9 (5 * i + j) ∨ ¬ a9 (5 * j + i) + k < 0) → ∀ b c : Nat → Int32, post 1 (f0, f1, f2, f3, f4, f5, f6, a1, a2, a3, a4, a5, a6, a7, a8, b, c))
    (H0 : k < a9 (5 * i + j) → a9 (5 * j + i) + k < 0 → ∀ b c : Nat → Int32, post 0 (f0, f1, f2, f3, f4, f5, f6, a1, a2, a3, a4, a5, a6, a7, a8, b, c)) :
    ∃ n, wX_goOn_44 post 0 (nI 0) 1 f0 f1 f2 f3 f4 f5 f6 a1 a2 a3 a4 a5 a6 a7 a8 a9 a10 n 0 0 := by
  refine ⟨0 + 1 + 1, pk_le 1 0 (fun z => absurd z (by omega)) (fun _ => br_t rfl ?_) (by decide) (by decide)⟩
  rw [sb_cl0, h1, h2, h3]
  have e : nI 0 + 5 * nI i + nI j = nI (5 * i + j) := by
    have e' := dt_m3 0 5 i j
    rw [Nat.zero_add] at e'
    exact e'
  rw [e, nI_clamp (show 5 * i + j < 2 ^ 31 by omega)]
  refine ⟨pk_in 0 24 (by omega), pk_in 0 24 (by omega), pk_in (5 * i + j) 225 (by omega), pk_in 0 24 (by omega),
    br_c (fun c => nm_r (e' := nI 1) (by decide) (pk_le 1 1 (fun _ => br_t rfl ?_) (fun z => absurd z (by omega)) (by decide)))
      (fun c => nm_r (e' := nI 1) (by decide) (pk_le 1 1 (fun _ => br_f (by decide) ⟨pk_in 0 9 (by omega), pk_in 0 9 (by omega), nm_e ?_⟩) (fun z => absurd z (by omega)) (by decide)))⟩
  · exact dt_145 hi hj h1 h2 h3 ht (fun c2 => H1 (Or.inr c2)) (fun c2 => H0 c c2)
  · refine dt_copy (d := 0) (by omega) (fun b => ⟨pk_in 0 9 (by omega), ?_⟩)
    rw [sb_cl0, pk_us, ht]
    exact br_t (by decide) (H1 (Or.inl c) _ _)
theorem dt_goOn {post : Int32 → St2 → Prop} {i j : Nat} {k : Int32} (hi : i ≤ 4) (hj : j ≤ 4) (h1 : a1 0 = nI i) (h2 : a2 0 = nI j) (h3 : a3 0 = k) (h4 : a4 0 = 1) (ht : a10 0 = 0)
    (H1 : (¬ k < a9 (5 * i + j) ∨ ¬ a9 (5 * j + i) + k < 0) → ∀ b c : Nat → Int32, post 1 (f0, f1, f2, f3, -1, f5, f6, a1, a2, a3, a4, a5, a6, a7, a8, b, c))
    (H0 : k < a9 (5 * i + j) → a9 (5 * j + i) + k < 0 → ∀ b c : Nat → Int32, post 0 (f0, f1, f2, f3, -1, f5, f6, a1, a2, a3, a4, a5, a6, a7, a8, b, c)) :
    wpX_goOn post (f0, f1, f2, f3, -1, f5, f6, a1, a2, a3, a4, a5, a6, a7, a8, a9, a10) 0 := by
  refine nm_r (e' := nI 0) (by decide) (br_f (by decide) ⟨pk_in 0 8 (by omega), ?_⟩)
  rw [sb_cl0, h4]
  exact br_f (by decide) (nm_r (e' := 0) (by decide) (dt_44 hi hj h1 h2 h3 ht H1 H0))
/-- the search's own loop, no point given, one constraint -/
theorem dt_69 {post : Int32 → St2 → Prop} {i j : Nat} {k : Int32} (hi : i ≤ 4) (hj : j ≤ 4) (h1 : a1 0 = nI i) (h2 : a2 0 = nI j) (h3 : a3 0 = k) (h4 : a4 0 = 1) (ht : a10 0 = 0)
    (H1 : (¬ k < a9 (5 * i + j) ∨ ¬ a9 (5 * j + i) + k < 0) → ∀ (g : Int32) (b c : Nat → Int32), post 1 (f0, f1, f2, 1, -1, f5, g, a1, a2, a3, a4, a5, a6, a7, a8, b, c))
    (H0 : k < a9 (5 * i + j) → a9 (5 * j + i) + k < 0 → ∀ (g : Int32) (b c : Nat → Int32), post 0 (f0, f1, f2, 1, -1, f5, g, a1, a2, a3, a4, a5, a6, a7, a8, b, c)) :
    ∃ n, wX_search_69 post (-1) (-1) n 0 0 0 f0 f1 f2 1 (-1) f5 (-1000) a1 a2 a3 a4 a5 a6 a7 a8 a9 a10 := by
  refine ⟨0 + 1 + 1, br_f (by decide) (br_f (by decide) (br_f (by decide) (br_f (by decide) (br_t rfl ?_))))⟩
  refine dt_goOn hi hj h1 h2 h3 h4 ht (fun hc b c => ?_) (fun hc hd b c => ?_)
  · refine br_f (by decide) (nm_r (e' := 1) (by decide) ⟨pk_in 1 9 (by omega), nm_e (nm_r (e' := 1) (by decide) ?_)⟩)
    exact br_f (by decide) (br_f (by decide) (br_f (by decide) (br_t rfl (br_f (by decide) (br_f (by decide) ⟨dt_nar1, H1 hc _ _ _⟩)))))
  · refine br_t rfl (nm_r (e' := -1) (by decide) (nm_r (e' := 1) (by decide) ?_))
    exact br_f (by decide) (br_t (by decide) ⟨dt_nar0, H0 hc hd _ _ _⟩)
/-- the same without a constraint -/
theorem dt_69z {post : Int32 → St2 → Prop} (H : ∀ (g : Int32) (b c : Nat → Int32), post 1 (f0, f1, f2, 0, f4, f5, g, a1, a2, a3, a4, a5, a6, a7, a8, b, c)) :
    ∃ n, wX_search_69 post (-1) (-1) n 0 0 0 f0 f1 f2 0 f4 f5 (-1000) a1 a2 a3 a4 a5 a6 a7 a8 a9 a10 :=
  ⟨0 + 1, br_f (by decide) (br_f (by decide) (br_f (by decide) (br_t rfl (br_f (by decide) (br_f (by decide) ⟨dt_nar1, H _ _ _⟩)))))⟩
theorem dt_32 {post : Int32 → St2 → Prop} (H : ∀ b : Nat → Int32, (∀ j, j < 25 → b j = a8 j) → ∃ n, wX_search_69 post (-1) (-1) n 0 0 0 f0 f1 f2 f3 f4 f5 f6 a1 a2 a3 a4 a5 a6 a7 a8 b (upd a10 0 0)) :
    ∃ n, wX_search_32 post (-1) (-1) 0 0 f0 f1 f2 f3 f4 f5 f6 n 0 a1 a2 a3 a4 a5 a6 a7 a8 a9 a10 :=
  pk_loop (fun n i s => wX_search_32 post (-1) (-1) 0 0 f0 f1 f2 f3 f4 f5 f6 n (nI i) a1 a2 a3 a4 a5 a6 a7 a8 s a10) (fun i s => ∀ j, j < i → s j = a8 j) 25 0 a9 (by omega) (fun j hj => absurd hj (by omega))
    (fun n s h => pk_le 25 25 (fun _ => nm_e (H s h)) (fun z => absurd z (by omega)))
    (fun n i s hi h hw => pk_le 25 i (fun z => absurd z (by omega)) (fun _ => ⟨pk_in i 25 hi, pk_in i 225 (by omega), nm_e (nm_r (nI_1 i) (hw _ (dt_fill (nI_clamp (by omega)) h (by rw [nI_clamp (by omega)]))))⟩))
theorem dt_can1 {post : Int32 → St2 → Prop} {i j : Nat} {k : Int32} (hi : i ≤ 4) (hj : j ≤ 4) (h1 : a1 0 = nI i) (h2 : a2 0 = nI j) (h3 : a3 0 = k) (h4 : a4 0 = 1)
    (H1 : (¬ k < a8 (5 * i + j) ∨ ¬ a8 (5 * j + i) + k < 0) → ∀ (g : Int32) (b c : Nat → Int32), post 1 (f0, 1, f2, 1, -1, 0, g, a1, a2, a3, a4, a5, a6, a7, a8, b, c))
    (H0 : k < a8 (5 * i + j) → a8 (5 * j + i) + k < 0 → ∀ (g : Int32) (b c : Nat → Int32), post 0 (f0, 1, f2, 1, -1, 0, g, a1, a2, a3, a4, a5, a6, a7, a8, b, c)) :
    wpX_canMeet post (f0, 1, f2, f3, -1, 0, f6, a1, a2, a3, a4, a5, a6, a7, a8, a9, a10) := by
  refine br_t rfl (dt_32 (fun b hb => dt_69 hi hj h1 h2 h3 h4 pk_us ?_ ?_))
  · rw [hb (5 * i + j) (by omega), hb (5 * j + i) (by omega)]
    exact fun hc g b c => ⟨dt_nar1, H1 hc g b c⟩
  · rw [hb (5 * i + j) (by omega), hb (5 * j + i) (by omega)]
    exact fun hc hd g b c => ⟨dt_nar0, H0 hc hd g b c⟩
theorem dt_can0 {post : Int32 → St2 → Prop} (H : ∀ (g : Int32) (b c : Nat → Int32), post 1 (f0, 0, f2, 0, f4, 0, g, a1, a2, a3, a4, a5, a6, a7, a8, b, c)) : wpX_canMeet post (f0, 0, f2, f3, f4, 0, f6, a1, a2, a3, a4, a5, a6, a7, a8, a9, a10) :=
  br_t rfl (dt_32 (fun b hb => dt_69z (fun g b c => ⟨dt_nar1, H g b c⟩)))
theorem dt_exc0 {post : Int32 → St2 → Prop} {N : Nat} (hN : N ≤ 4) (H : ∀ (g0 g1 g2 g3 g4 g5 g6 : Int32) (b1 b2 b3 b4 b5 b6 b7 b8 b9 b10 : Nat → Int32), post 0 (g0, g1, g2, g3, g4, g5, g6, b1, b2, b3, b4, b5, b6, b7, b8, b9, b10)) : wpX_excess post (nI N, 0, f2, f3, f4, f5, f6, a1, a2, a3, a4, a5, a6, a7, a8, a9, a10) :=
  ⟨0 + 1, br_f (by decide) (dt_open hN (fun b hb => dt_can0 (fun g b c => br_f (by decide) (H _ _ _ _ _ _ _ _ _ _ _ _ _ _ _ _ _))))⟩
theorem dt_exc1 {post : Int32 → St2 → Prop} {N i j : Nat} {k : Int32} (hN : N ≤ 4) (hi : i ≤ 4) (hj : j ≤ 4) (h1 : a1 0 = nI i) (h2 : a2 0 = nI j) (h3 : a3 0 = k) (h4 : a4 0 = 1)
    (H1 : (¬ k < dt_s N (5 * i + j) ∨ ¬ dt_s N (5 * j + i) + k < 0) → ∀ (g0 g1 g2 g3 g4 g5 g6 : Int32) (b1 b2 b3 b4 b5 b6 b7 b8 b9 b10 : Nat → Int32), post 0 (g0, g1, g2, g3, g4, g5, g6, b1, b2, b3, b4, b5, b6, b7, b8, b9, b10))
    (H0 : k < dt_s N (5 * i + j) → dt_s N (5 * j + i) + k < 0 → ∀ (g0 g1 g2 g3 g4 g5 g6 : Int32) (b1 b2 b3 b4 b5 b6 b7 b8 b9 b10 : Nat → Int32), post 1 (g0, g1, g2, g3, g4, g5, g6, b1, b2, b3, b4, b5, b6, b7, b8, b9, b10)) :
    wpX_excess post (nI N, 1, f2, f3, -1, f5, f6, a1, a2, a3, a4, a5, a6, a7, a8, a9, a10) := by
  refine ⟨0 + 1 + 1, br_f (by decide) (dt_open hN (fun b hb => dt_can1 hi hj h1 h2 h3 h4 ?_ ?_))⟩
  · rw [hb (5 * i + j) (by omega), hb (5 * j + i) (by omega)]
    exact fun hc g b c => br_f (by decide) (H1 hc _ _ _ _ _ _ _ _ _ _ _ _ _ _ _ _ _)
  · rw [hb (5 * i + j) (by omega), hb (5 * j + i) (by omega)]
    refine fun hc hd g b c => br_t rfl (nm_r (e' := 0) (by decide) (nm_r (e' := 1) (by decide) (nm_r (e' := 1) (by decide) ?_)))
    exact br_f (by decide) (dt_open hN (fun b hb => dt_can0 (fun g b c => br_f (by decide) (H0 hc hd _ _ _ _ _ _ _ _ _ _ _ _ _ _ _ _ _))))
end
end
section
/-- the time of a point in a plan -/
def dt_t (n x p : Int32) : Int32 := if p = n then 0 else (x >>> ((3 * ((n - 1) - p)) &&& 31)) &&& 7
/-- x is a plan's number -/
def dt_pl (n x : Int32) : Prop := ¬ x < 0 ∧ x < (1 : Int32) <<< ((3 * n) &&& 31)
section
variable {f0 f1 f2 f3 f4 f5 f6 : Int32} {a1 a2 a3 a4 a5 a6 a7 a8 a9 a10 : Nat → Int32}
theorem dt_isPoint {post : Int32 → Prop} {p : Int32} (H0 : (p < 0 ∨ f0 < p) → post 0) (H1 : ¬ p < 0 → ¬ f0 < p → post 1) : wpX_isPoint post (f0, f1, f2, f3, f4, f5, f6, a1, a2, a3, a4, a5, a6, a7, a8, a9, a10) p :=
  br_c (fun c => H0 (Or.inl c)) (fun c => br_c (fun c2 => H0 (Or.inr c2)) (fun c2 => H1 c c2))
theorem dt_alt {post : Int32 → St2 → Prop} {x1 x2 x3 : Int32}
    (Hn : (x1 < 0 ∨ f0 < x1 ∨ x2 < 0 ∨ f0 < x2) → post (-1) (f0, f1, 0, f3, f4, f5, f6, a1, a2, a3, a4, a5, a6, a7, a8, a9, a10))
    (He : ¬ (x1 < 0 ∨ f0 < x1 ∨ x2 < 0 ∨ f0 < x2) → x1 = x2 → post (-2) (f0, f1, 0, f3, f4, f5, f6, a1, a2, a3, a4, a5, a6, a7, a8, a9, a10))
    (Hk : ¬ (x1 < 0 ∨ f0 < x1 ∨ x2 < 0 ∨ f0 < x2) → ¬ x1 = x2 → (x3 < (-10) ∨ ¬ x3 ≤ 10) → post (-3) (f0, f1, 0, f3, f4, f5, f6, a1, a2, a3, a4, a5, a6, a7, a8, a9, a10))
    (H1 : ¬ (x1 < 0 ∨ f0 < x1 ∨ x2 < 0 ∨ f0 < x2) → ¬ x1 = x2 → ¬ x3 < (-10) → x3 ≤ 10 → post 1 (f0, f1, 1, f3, f4, f5, f6, a1, a2, a3, a4, upd a5 0 x1, upd a6 0 x2, upd a7 0 x3, a8, a9, a10)) :
    wpX_alternative post (f0, f1, 0, f3, f4, f5, f6, a1, a2, a3, a4, a5, a6, a7, a8, a9, a10) x1 x2 x3 := by
  unfold wpX_alternative
  refine dt_isPoint (fun c => br_t rfl (Hn (c.elim Or.inl (fun z => Or.inr (Or.inl z))))) (fun c1 c2 => br_f (by decide) ?_)
  refine dt_isPoint (fun c => br_t rfl (Hn (Or.inr (Or.inr c)))) (fun c3 c4 => br_f (by decide) ?_)
  have hn : ¬ (x1 < 0 ∨ f0 < x1 ∨ x2 < 0 ∨ f0 < x2) := fun h => h.elim c1 (fun h => h.elim c2 (fun h => h.elim c3 c4))
  refine br_c (fun e => He hn e) (fun e => br_c (fun k1 => Hk hn e (Or.inl k1)) (fun k1 => br_c (fun k2 => br_f (by decide) ⟨pk_in 0 3 (by omega), ?_⟩) (fun k2 => Hk hn e (Or.inr k2))))
  rw [sb_cl0]
  exact nm_e ⟨pk_in 0 3 (by omega), nm_e ⟨pk_in 0 3 (by omega), nm_e (nm_r (e' := 1) (by decide) (H1 hn e k1 k2))⟩⟩
theorem dt_offer {post : St2 → Prop} {p0 p1 p2 : Int32} (h4 : a4 0 = 0) (H : post (f0, 0, f2, f3, f4, f5, f6, upd a1 0 p0, upd a2 0 p1, upd a3 0 p2, upd a4 0 1, a5, a6, a7, a8, a9, a10)) : wpX_offer post (f0, 0, f2, f3, f4, f5, f6, a1, a2, a3, a4, a5, a6, a7, a8, a9, a10) p0 p1 p2 := by
  refine ⟨pk_in 0 8 (by omega), ?_⟩
  rw [sb_cl0, h4]
  refine nm_r (e' := 0) (by decide) ⟨pk_in 0 24 (by omega), ?_⟩
  rw [sb_cl0]
  exact nm_e ⟨pk_in 0 24 (by omega), nm_e ⟨pk_in 0 24 (by omega), nm_e ⟨pk_in 0 8 (by omega), pk_in 0 8 (by omega), nm_r (e' := upd a4 0 1) (congrArg (upd a4 0) (by decide)) H⟩⟩⟩
theorem dt_add0 {post : Int32 → St2 → Prop} (H : post (-1) (f0, f1, 0, f3, f4, f5, f6, a1, a2, a3, a4, a5, a6, a7, a8, a9, a10)) : wpX_add post (f0, f1, 0, f3, f4, f5, f6, a1, a2, a3, a4, a5, a6, a7, a8, a9, a10) := br_t rfl H
theorem dt_add1 {post : Int32 → St2 → Prop} {x1 x2 x3 : Int32} (h5 : a5 0 = x1) (h6 : a6 0 = x2) (h7 : a7 0 = x3)
    (H : ∀ c1 c2 c3 c4 : Nat → Int32, c1 0 = x1 → c2 0 = x2 → c3 0 = x3 → c4 0 = 1 → post 1 (f0, 1, 0, f3, f4, f5, f6, c1, c2, c3, c4, a5, a6, a7, a8, a9, a10)) : wpX_add post (f0, 0, 1, f3, f4, f5, f6, a1, a2, a3, a4, a5, a6, a7, a8, a9, a10) := by
  refine br_f (by decide) (br_f (by decide) ⟨pk_in 0 8 (by omega), ?_⟩)
  rw [sb_cl0]
  refine nm_e ⟨0 + 1 + 1, br_f (by decide) ⟨pk_in 0 3 (by omega), pk_in 0 3 (by omega), pk_in 0 3 (by omega), ?_⟩⟩
  rw [sb_cl0, h5, h6, h7]
  refine dt_offer pk_us (nm_r (e' := 1) (by decide) ?_)
  exact br_t (by decide) (nm_r (e' := 1) (by decide) (H _ _ _ _ pk_us pk_us pk_us pk_us))
theorem dt_timeIn {post : Int32 → Prop} {x p : Int32} (H : post (dt_t f0 x p)) : wpX_timeIn post (f0, f1, f2, f3, f4, f5, f6, a1, a2, a3, a4, a5, a6, a7, a8, a9, a10) x p := by
  unfold dt_t at H
  exact br_c (fun c => by rw [if_pos c] at H; exact H) (fun c => by rw [if_neg c] at H; exact H)
theorem dt_meets0 {post : Int32 → Prop} {x : Int32} (Hm : ¬ dt_pl f0 x → post (-1)) (H1 : dt_pl f0 x → post 1) : wpX_meets post (f0, 0, f2, f3, f4, f5, f6, a1, a2, a3, a4, a5, a6, a7, a8, a9, a10) x :=
  br_c (fun c => Hm (fun h => h.1 c)) (fun c => br_c (fun c2 => ⟨0 + 1, br_t (by decide) (H1 ⟨c, c2⟩)⟩) (fun c2 => Hm (fun h => c2 h.2)))
theorem dt_meets1 {post : Int32 → Prop} {x x1 x2 x3 : Int32} (h1 : a1 0 = x1) (h2 : a2 0 = x2) (h3 : a3 0 = x3) (h4 : a4 0 = 1) (Hm : ¬ dt_pl f0 x → post (-1))
    (H0 : dt_pl f0 x → x3 < dt_t f0 x x1 - dt_t f0 x x2 → post 0) (H1 : dt_pl f0 x → ¬ x3 < dt_t f0 x x1 - dt_t f0 x x2 → post 1) : wpX_meets post (f0, 1, f2, f3, f4, f5, f6, a1, a2, a3, a4, a5, a6, a7, a8, a9, a10) x := by
  refine br_c (fun c => Hm (fun h => h.1 c)) (fun c => br_c (fun c2 => ⟨0 + 1 + 1, br_f (by decide) (nm_r (e' := 0) (by decide) ⟨0 + 1 + 1, pk_in 0 8 (by omega), ?_⟩)⟩) (fun c2 => Hm (fun h => c2 h.2)))
  rw [sb_cl0, h1, h2, h3, h4]
  refine br_f (by decide) (br_t rfl ⟨pk_in 0 24 (by omega), dt_timeIn ⟨pk_in 0 24 (by omega), dt_timeIn ⟨pk_in 0 24 (by omega), ?_⟩⟩⟩)
  refine br_c (fun d => nm_r (e' := 1) (by decide) ⟨pk_in 0 8 (by omega), ?_⟩) (fun d => nm_r (e' := 1) (by decide) ⟨pk_in 0 8 (by omega), ?_⟩)
  · rw [sb_cl0, h4]
    exact br_t (by decide) (br_t rfl (H0 ⟨c, c2⟩ d))
  · rw [sb_cl0, h4]
    exact br_t (by decide) (br_f (by decide) (nm_r (e' := 1) (by decide) (br_t (by decide) (H1 ⟨c, c2⟩ d))))
end
end
section
theorem dt_sv {N i j : Nat} (hj : j ≤ 4) (h : i ≠ j) : dt_s N (5 * i + j) = if i = N then 0 else 7 := by
  unfold dt_s
  rw [show (5 * i + j) / 5 = i by omega, show (5 * i + j) % 5 = j by omega, if_neg h]
theorem dt_kf {k : Int32} (h : ¬ k < (-10)) (h' : k ≤ 10) : ∃ z : Nat, z < 21 ∧ k = Int32.ofInt ((z : Int) - 10) := by
  rw [Int32.lt_iff_toInt_lt, show (-10 : Int32).toInt = -10 by decide] at h
  rw [Int32.le_iff_toInt_le, show (10 : Int32).toInt = 10 by decide] at h'
  refine ⟨(k.toInt + 10).toNat, by omega, ?_⟩
  rw [show (((k.toInt + 10).toNat : Nat) : Int) - 10 = k.toInt by omega, Int32.ofInt_toInt]
theorem dt_k7 : ∀ z : Nat, z < 21 → ((7 : Int32) + Int32.ofInt ((z : Int) - 10) < 0 ↔ Int32.ofInt ((z : Int) - 10) < (-7)) := by decide
theorem dt_c7 {k : Int32} (h : ¬ k < (-10)) (h' : k ≤ 10) : (7 : Int32) + k < 0 ↔ k < (-7) := by
  obtain ⟨z, hz, rfl⟩ := dt_kf h h'
  exact dt_k7 z hz
theorem dt_lt {k c d : Int32} (h : k < c) (hc : c ≤ d) : k < d := Int32.lt_of_lt_of_le h hc
/-- no plan: the search fails -/
theorem dt_no {N i j : Nat} {k : Int32} (hi : i ≤ 4) (hj : j ≤ 4) (hij : i ≠ j) (h : ¬ k < (-10)) (h' : k ≤ 10) (ha : j = N → k < 0) (hb : j ≠ N → k < (-7)) :
    k < dt_s N (5 * i + j) ∧ dt_s N (5 * j + i) + k < 0 := by
  rw [dt_sv hj hij, dt_sv hi (fun e => hij e.symm)]
  have h0 : k < 0 := by
    by_cases e : j = N
    · exact ha e
    · exact dt_lt (hb e) (by decide)
  refine ⟨?_, ?_⟩
  · by_cases e : i = N
    · rw [if_pos e]
      exact h0
    · rw [if_neg e]
      exact dt_lt h0 (by decide)
  · by_cases e : j = N
    · rw [if_pos e, Int32.zero_add]
      exact ha e
    · rw [if_neg e]
      exact (dt_c7 h h').mpr (hb e)
/-- a plan: the search ends well -/
theorem dt_yes {N i j : Nat} {k : Int32} (hi : i ≤ 4) (hij : i ≠ j) (h : ¬ k < (-10)) (h' : k ≤ 10) (ha : j = N → ¬ k < 0) (hb : j ≠ N → ¬ k < (-7)) :
    ¬ dt_s N (5 * j + i) + k < 0 := by
  rw [dt_sv hi (fun e => hij e.symm)]
  by_cases e : j = N
  · rw [if_pos e, Int32.zero_add]
    exact ha e
  · rw [if_neg e]
    exact fun z => hb e ((dt_c7 h h').mp z)
end
section
section
variable {f0 f1 f2 f3 f4 f5 f6 : Int32} {a1 a2 a3 a4 a5 a6 a7 a8 a9 a10 : Nat → Int32} {post : Int32 → St0 → Prop} {mc ms kc ks N : Nat} {x1 x2 x3 x4 x6 : Int32}
theorem dt_187 {x9 z : Int32} (K : ∀ x10 : Int32, ((x10 = 0 ∧ ¬ dt_pl x6 x4) ∨ (x10 = 1 ∧ dt_pl x6 x4)) → wL_lawOf_213 post mc ms x1 x2 x3 x4 x6 x9 x10 kc ks f0 f1 f2 f3 f4 f5 f6 a1 a2 a3 a4 a5 a6 a7 a8 a9 a10) : wL_lawOf_187 post mc ms x1 x2 x3 x4 x6 x9 z z kc ks f0 f1 f2 f3 f4 f5 f6 a1 a2 a3 a4 a5 a6 a7 a8 a9 a10 :=
  br_t rfl (br_c (fun c => K 0 (Or.inl ⟨rfl, fun h => h.1 c⟩)) (fun c => br_c (fun c2 => K 0 (Or.inl ⟨rfl, fun h => absurd c2 (Int32.not_le.mpr h.2)⟩)) (fun c2 => K 1 (Or.inr ⟨rfl, c, Int32.not_le.mp c2⟩))))
/-! nothing was added -/
theorem dt_324z {z : Int32} (hp : post 1 ()) (hN : N ≤ 4) : wL_lawOf_324 post mc ms x2 x3 x6 0 z z kc ks (nI N) 0 f2 f3 f4 f5 f6 a1 a2 a3 a4 a5 a6 a7 a8 a9 a10 :=
  br_t rfl (br_t rfl (dt_exc0 hN (fun _ _ _ _ _ _ _ _ _ _ _ _ _ _ _ _ _ => br_f (by decide) (br_t rfl hp))))
theorem dt_213z {x10 : Int32} (hp : post 1 ()) (hN : N ≤ 4) (hx : (x10 = 0 ∧ ¬ dt_pl (nI N) x4) ∨ (x10 = 1 ∧ dt_pl (nI N) x4)) : wL_lawOf_213 post mc ms x1 x2 x3 x4 (nI N) 0 x10 kc ks (nI N) 0 f2 f3 f4 f5 f6 a1 a2 a3 a4 a5 a6 a7 a8 a9 a10 := by
  refine br_t rfl (br_t rfl (br_t rfl ?_))
  unfold wL_lawOf_291
  rcases hx with ⟨rfl, h⟩ | ⟨rfl, h⟩
  · exact dt_meets0 (fun _ => br_t rfl (dt_324z hp hN)) (fun c => absurd c h)
  · exact dt_meets0 (fun c => absurd h c) (fun _ => br_f (by decide) (br_f (by decide) (dt_324z hp hN)))
theorem dt_149z {z : Int32} (hp : post 1 ()) (hN : N ≤ 4) : wL_lawOf_149 post mc ms x1 x2 x3 x4 (nI N) 0 z z kc ks (nI N) 0 0 f3 f4 f5 f6 a1 a2 a3 a4 a5 a6 a7 a8 a9 a10 :=
  br_t rfl (dt_add0 (br_t rfl (br_t rfl (br_t rfl (dt_187 (fun _ hx => dt_213z hp hN hx))))))
/-! one constraint of one comparison was added -/
theorem dt_324m {i j : Nat} {z : Int32} (hp : post 1 ()) (hN : N ≤ 4) (hi : i ≤ N) (hj : j ≤ N) (hij : i ≠ j) (k1 : ¬ x3 < (-10)) (k2 : x3 ≤ 10) (h1 : a1 0 = nI i) (h2 : a2 0 = nI j) (h3 : a3 0 = x3) (h4 : a4 0 = 1) :
    wL_lawOf_324 post mc ms (nI j) x3 (nI N) 1 z z kc ks (nI N) 1 f2 f3 (-1) f5 f6 a1 a2 a3 a4 a5 a6 a7 a8 a9 a10 := by
  have hi4 : i ≤ 4 := by omega
  have hj4 : j ≤ 4 := by omega
  have hno : (j = N → x3 < 0) → (j ≠ N → x3 < (-7)) → wL_lawOf_357 post mc ms kc ks (nI N) 1 f2 f3 (-1) f5 f6 a1 a2 a3 a4 a5 a6 a7 a8 a9 a10 := fun ha hb => by
    have hh := dt_no hi4 hj4 hij k1 k2 ha hb
    exact dt_exc1 hN hi4 hj4 h1 h2 h3 h4 (fun c => absurd hh (fun hh => c.elim (fun c => c hh.1) (fun c => c hh.2))) (fun _ _ _ _ _ _ _ _ _ _ _ _ _ _ _ _ _ _ _ => br_t rfl (br_t rfl hp))
  have hyes : (j = N → ¬ x3 < 0) → (j ≠ N → ¬ x3 < (-7)) → wL_lawOf_353 post mc ms kc ks (nI N) 1 f2 f3 (-1) f5 f6 a1 a2 a3 a4 a5 a6 a7 a8 a9 a10 := fun ha hb => by
    have hh := dt_yes hi4 hij k1 k2 ha hb
    exact dt_exc1 hN hi4 hj4 h1 h2 h3 h4 (fun _ _ _ _ _ _ _ _ _ _ _ _ _ _ _ _ _ _ => br_f (by decide) (br_t rfl hp)) (fun _ c => absurd c hh)
  exact br_t rfl (br_f (by decide) (pk_eq j N
    (fun e => br_c (fun c => hno (fun _ => c) (fun z => absurd e z)) (fun c => hyes (fun _ => c) (fun z => absurd e z)))
    (fun e => br_c (fun c => hno (fun z => absurd z e) (fun _ => c)) (fun c => hyes (fun z => absurd z e) (fun _ => c)))))
theorem dt_213m {i j : Nat} {x10 : Int32} (hp : post 1 ()) (hN : N ≤ 4) (hi : i ≤ N) (hj : j ≤ N) (hij : i ≠ j) (k1 : ¬ x3 < (-10)) (k2 : x3 ≤ 10) (h1 : a1 0 = nI i) (h2 : a2 0 = nI j) (h3 : a3 0 = x3) (h4 : a4 0 = 1)
    (hx : (x10 = 0 ∧ ¬ dt_pl (nI N) x4) ∨ (x10 = 1 ∧ dt_pl (nI N) x4)) : wL_lawOf_213 post mc ms (nI i) (nI j) x3 x4 (nI N) 1 x10 kc ks (nI N) 1 f2 f3 (-1) f5 f6 a1 a2 a3 a4 a5 a6 a7 a8 a9 a10 := by
  have h296 : ∀ z0 : Int32, ((z0 = 0 ∧ x3 < dt_t (nI N) x4 (nI i) - dt_t (nI N) x4 (nI j)) ∨ (z0 = 1 ∧ ¬ x3 < dt_t (nI N) x4 (nI i) - dt_t (nI N) x4 (nI j))) →
      wL_lawOf_296 post mc ms (nI j) x3 x4 (nI N) 1 x10 z0 kc ks (nI N) 1 f2 f3 (-1) f5 f6 a1 a2 a3 a4 a5 a6 a7 a8 a9 a10 := by
    intro z0 hz
    have q : ∀ z : Int32, wL_lawOf_324 post mc ms (nI j) x3 (nI N) 1 z z kc ks (nI N) 1 f2 f3 (-1) f5 f6 a1 a2 a3 a4 a5 a6 a7 a8 a9 a10 := fun z => dt_324m hp hN hi hj hij k1 k2 h1 h2 h3 h4
    rcases hx with ⟨rfl, h⟩ | ⟨rfl, h⟩
    · exact dt_meets1 h1 h2 h3 h4 (fun _ => br_t rfl (q _)) (fun c => absurd c h) (fun c => absurd c h)
    · rcases hz with ⟨rfl, g⟩ | ⟨rfl, g⟩
      · exact dt_meets1 h1 h2 h3 h4 (fun c => absurd h c) (fun _ _ => br_f (by decide) (br_t rfl (q _))) (fun _ c => absurd g c)
      · exact dt_meets1 h1 h2 h3 h4 (fun c => absurd h c) (fun _ c => absurd c g) (fun _ _ => br_f (by decide) (br_f (by decide) (q _)))
  have h275 : ∀ z0 : Int32, z0 = dt_t (nI N) x4 (nI j) → wL_lawOf_275 post mc ms (nI j) x3 x4 (nI N) 1 x10 (dt_t (nI N) x4 (nI i)) z0 kc ks (nI N) 1 f2 f3 (-1) f5 f6 a1 a2 a3 a4 a5 a6 a7 a8 a9 a10 := by
    intro z0 hz
    subst hz
    exact br_f (by decide) (br_c (fun c => h296 0 (Or.inl ⟨rfl, c⟩)) (fun c => h296 1 (Or.inr ⟨rfl, c⟩)))
  have ht : ∀ t : Nat, t ≤ N → (N ≤ t → dt_t (nI N) x4 (nI t) = 0) ∧ (t < N → dt_t (nI N) x4 (nI t) = (x4 >>> ((3 * ((nI N - 1) - nI t)) &&& 31)) &&& 7) := fun t ht => by
    unfold dt_t
    constructor
    · intro e
      rw [if_pos (show nI t = nI N by rw [show t = N by omega])]
    · intro e
      rw [if_neg (fun z => absurd ((nI_eq (by omega) (by omega)).mp z) (by omega))]
  have h244 : ∀ z0 : Int32, z0 = dt_t (nI N) x4 (nI i) → wL_lawOf_244 post mc ms (nI j) x3 x4 (nI N) 1 x10 z0 kc ks (nI N) 1 f2 f3 (-1) f5 f6 a1 a2 a3 a4 a5 a6 a7 a8 a9 a10 := by
    intro z0 hz
    subst hz
    exact br_f (by decide) (pk_le N j (fun e => h275 0 ((ht j hj).1 e).symm) (fun e => h275 _ ((ht j hj).2 e).symm))
  exact br_f (by decide) (pk_le N i (fun e => h244 0 ((ht i hi).1 e).symm) (fun e => h244 _ ((ht i hi).2 e).symm))
theorem dt_149m {i j : Nat} {z : Int32} (hp : post 1 ()) (hN : N ≤ 4) (hi : i ≤ N) (hj : j ≤ N) (hij : i ≠ j) (k1 : ¬ x3 < (-10)) (k2 : x3 ≤ 10) (h5 : a5 0 = nI i) (h6 : a6 0 = nI j) (h7 : a7 0 = x3) :
    wL_lawOf_149 post mc ms (nI i) (nI j) x3 x4 (nI N) 1 z z kc ks (nI N) 0 1 f3 (-1) f5 f6 a1 a2 a3 a4 a5 a6 a7 a8 a9 a10 :=
  br_t rfl (dt_add1 h5 h6 h7 (fun c1 c2 c3 c4 e1 e2 e3 e4 => br_f (by decide) (br_t rfl (br_f (by decide) (dt_187 (fun _ hx => dt_213m hp hN hi hj hij k1 k2 e1 e2 e3 e4 hx))))))
end
end
section
section
variable {f0 f1 f2 f3 f4 f5 f6 : Int32} {a1 a2 a3 a4 a5 a6 a7 a8 a9 a10 : Nat → Int32} {post : Int32 → St0 → Prop} {mc ms kc ks N : Nat} {x1 x2 x3 x4 x6 : Int32}
/-- a point isn't named -/
theorem dt_109n {x8 : Int32} (hp : post 1 ()) (hN : N ≤ 4) (h : x1 < 0 ∨ nI N < x1 ∨ x2 < 0 ∨ nI N < x2) : wL_lawOf_109 post mc ms x1 x2 x3 x4 (nI N) 0 x8 0 kc ks (nI N) 0 0 f3 f4 f5 f6 a1 a2 a3 a4 a5 a6 a7 a8 a9 a10 :=
  dt_alt (fun _ => br_t rfl (dt_149z hp hN)) (fun c => absurd h c) (fun c => absurd h c) (fun c => absurd h c)
/-- twice the same point -/
theorem dt_109e {x8 : Int32} (hp : post 1 ()) (hN : N ≤ 4) (h : ¬ (x1 < 0 ∨ nI N < x1 ∨ x2 < 0 ∨ nI N < x2)) (e : x1 = x2) : wL_lawOf_109 post mc ms x1 x2 x3 x4 (nI N) 1 x8 0 kc ks (nI N) 0 0 f3 f4 f5 f6 a1 a2 a3 a4 a5 a6 a7 a8 a9 a10 :=
  dt_alt (fun c => absurd c h) (fun _ _ => br_f (by decide) (br_t e (dt_149z hp hN))) (fun _ c => absurd e c) (fun _ c => absurd e c)
/-- the limit is too far -/
theorem dt_109k (hp : post 1 ()) (hN : N ≤ 4) (h : ¬ (x1 < 0 ∨ nI N < x1 ∨ x2 < 0 ∨ nI N < x2)) (e : ¬ x1 = x2) (k : x3 < (-10) ∨ ¬ x3 ≤ 10) : wL_lawOf_109 post mc ms x1 x2 x3 x4 (nI N) 1 0 0 kc ks (nI N) 0 0 f3 f4 f5 f6 a1 a2 a3 a4 a5 a6 a7 a8 a9 a10 :=
  dt_alt (fun c => absurd c h) (fun _ c => absurd c e) (fun _ _ _ => br_f (by decide) (br_f e (br_t rfl (dt_149z hp hN)))) (fun _ _ c1 c2 => absurd k (fun k => k.elim (fun z => c1 z) (fun z => z c2)))
theorem dt_109m (hp : post 1 ()) (hN : N ≤ 4) (h : ¬ (x1 < 0 ∨ nI N < x1 ∨ x2 < 0 ∨ nI N < x2)) (e : ¬ x1 = x2) (k1 : ¬ x3 < (-10)) (k2 : x3 ≤ 10) : wL_lawOf_109 post mc ms x1 x2 x3 x4 (nI N) 1 1 1 kc ks (nI N) 0 0 f3 (-1) f5 f6 a1 a2 a3 a4 a5 a6 a7 a8 a9 a10 := by
  obtain ⟨i, hi, rfl⟩ := nI_of2 (nI_toInt (show N < 2 ^ 31 by omega)) (fun z => h (Or.inl z)) (Int32.not_lt.mp (fun z => h (Or.inr (Or.inl z))))
  obtain ⟨j, hj, rfl⟩ := nI_of2 (nI_toInt (show N < 2 ^ 31 by omega)) (fun z => h (Or.inr (Or.inr (Or.inl z)))) (Int32.not_lt.mp (fun z => h (Or.inr (Or.inr (Or.inr z)))))
  have hij : i ≠ j := fun z => e (by rw [z])
  exact dt_alt (fun c => absurd c h) (fun _ c => absurd c e) (fun _ _ c => absurd c (fun c => c.elim (fun z => k1 z) (fun z => z k2)))
    (fun _ _ _ _ => br_f (by decide) (br_f e (br_f (by decide) (dt_149m hp hN hi hj hij k1 k2 pk_us pk_us pk_us))))
theorem dt_87n {z0 : Int32} (hp : post 1 ()) (hN : N ≤ 4) (h : x1 < 0 ∨ nI N < x1 ∨ x2 < 0 ∨ nI N < x2) : wL_lawOf_87 post mc ms x1 x2 x3 x4 (nI N) 0 z0 kc ks (nI N) 0 0 f3 f4 f5 f6 a1 a2 a3 a4 a5 a6 a7 a8 a9 a10 :=
  br_t rfl (dt_109n hp hN h)
theorem dt_67 (hp : post 1 ()) (hN : N ≤ 4) (h : x1 < 0 ∨ nI N < x1 ∨ x2 < 0 ∨ nI N < x2) : wL_lawOf_67 post mc ms x1 x2 x3 x4 (nI N) kc ks (nI N) 0 0 f3 f4 f5 f6 a1 a2 a3 a4 a5 a6 a7 a8 a9 a10 :=
  br_c (fun _ => dt_87n hp hN h) (fun _ => br_c (fun _ => dt_87n hp hN h) (fun _ => dt_87n hp hN h))
theorem dt_86 (hp : post 1 ()) (hN : N ≤ 4) (h : ¬ (x1 < 0 ∨ nI N < x1 ∨ x2 < 0 ∨ nI N < x2)) (k : x3 < (-10) ∨ ¬ x3 ≤ 10) : wL_lawOf_86 post mc ms x1 x2 x3 x4 (nI N) 1 kc ks (nI N) 0 0 f3 f4 f5 f6 a1 a2 a3 a4 a5 a6 a7 a8 a9 a10 :=
  br_f (by decide) (br_c (fun e => dt_109e hp hN h e) (fun e => br_t rfl (dt_109k hp hN h e k)))
theorem dt_68 (hp : post 1 ()) (hN : N ≤ 4) (h : ¬ (x1 < 0 ∨ nI N < x1 ∨ x2 < 0 ∨ nI N < x2)) : wL_lawOf_68 post mc ms x1 x2 x3 x4 (nI N) 1 kc ks (nI N) 0 0 f3 (-1) f5 f6 a1 a2 a3 a4 a5 a6 a7 a8 a9 a10 :=
  br_c (fun k1 => dt_86 hp hN h (Or.inl k1)) (fun k1 => br_c (fun k2 => dt_86 hp hN h (Or.inr (Int32.not_le.mpr k2)))
    (fun k2 => br_f (by decide) (br_c (fun e => dt_109e hp hN h e) (fun e => br_f (by decide) (dt_109m hp hN h e k1 (Int32.not_lt.mp k2))))))
theorem dt_31 (hp : post 1 ()) (hN : N ≤ 4) : wL_lawOf_31 post mc ms x1 x2 x3 x4 (nI N) kc ks (nI N) 0 0 f3 (-1) f5 f6 a1 a2 a3 a4 a5 a6 a7 a8 a9 a10 :=
  br_t rfl (br_c (fun c1 => dt_67 hp hN (Or.inl c1)) (fun c1 => br_c (fun c2 => dt_67 hp hN (Or.inr (Or.inl c2))) (fun c2 => br_c (fun c3 => dt_67 hp hN (Or.inr (Or.inr (Or.inl c3)))) (fun c3 => br_c (fun c4 => dt_67 hp hN (Or.inr (Or.inr (Or.inr c4))))
    (fun c4 => dt_68 hp hN (fun h => h.elim c1 (fun h => h.elim c2 (fun h => h.elim c3 c4))))))))
theorem dt_init {post : St2 → Prop} {p0 : Int32}
    (H : ∀ N : Nat, N ≤ 4 → ((¬ 2 ≤ p0 ∧ N = 2) ∨ (2 ≤ p0 ∧ p0 ≤ 4 ∧ p0 = nI N) ∨ (2 ≤ p0 ∧ ¬ p0 ≤ 4 ∧ N = 4)) → post (nI N, f1, f2, f3, -1, f5, f6, fun _ => 0, fun _ => 0, fun _ => 0, fun _ => 0, fun _ => 0, fun _ => 0, fun _ => 0, fun _ => 0, fun _ => 0, fun _ => 0)) :
    wpX_init post 10 348 (f0, f1, f2, f3, f4, f5, f6) p0 := by
  refine ⟨by omega, by omega, by omega, by omega, by omega, by omega, by omega, by omega, by omega, by omega, by omega, by omega, by omega, by omega, by omega, by omega, by omega, by omega, by omega, by omega, br_c (fun c => br_c (fun d => ?_) (fun d => ?_)) (fun c => br_t (by decide) ?_)⟩
  · have h0 : ¬ p0 < 0 := fun z => absurd (Int32.lt_of_lt_of_le z (show (0 : Int32) ≤ 2 by decide)) (Int32.not_lt.mpr c)
    obtain ⟨N, hN, e⟩ := nI_of2 (M := 4) (n := 4) (by decide) h0 d
    have t := H N hN (Or.inr (Or.inl ⟨c, d, e⟩))
    rw [← e] at t
    exact t
  · exact H 4 (by omega) (Or.inr (Or.inr ⟨c, d, rfl⟩))
  · exact H 2 (by omega) (Or.inl ⟨c, rfl⟩)
theorem dt_lawOf {p0 p1 p2 p3 p4 : Int32} (hp : post 1 ()) : wpL_lawOf post 208 3312 () p0 p1 p2 p3 p4 := by
  refine ⟨by omega, by omega, 10, 348, by omega, by omega, dt_init (fun N hN hc => ?_)⟩
  rcases hc with ⟨c, rfl⟩ | ⟨c, d, rfl⟩ | ⟨c, d, rfl⟩
  · exact br_f c (br_t (by decide) (dt_31 (N := 2) hp (by omega)))
  · exact br_t c (br_t d (dt_31 hp hN))
  · exact br_t c (br_f d (dt_31 (N := 4) hp (by omega)))
theorem dt_cell {post : Int32 → Prop} {L : Nat} {xs : Nat → Int32} (k : Nat) (hk : k < 5) (hL : L ≤ 5) (H : ∀ r, post r) {p : Int32} (hp : p = nI k) : wpL_cellAt post L xs () p := by
  subst hp
  exact pk_le L k (fun _ => H _) (fun z => ⟨pk_in k L z, H _⟩)
end
theorem i_vc (xs : Nat → Int32) (L : Nat) (hL : L ≤ 5) : wpL_law (fun r => r = 1) L xs :=
  dt_cell 0 (by omega) hL (fun r1 => dt_cell 1 (by omega) hL (fun r2 => dt_cell 2 (by omega) hL (fun r3 => dt_cell 3 (by omega) hL (fun r4 => dt_cell 4 (by omega) hL (fun r5 =>
    ⟨208, 3312, by omega, by omega, dt_lawOf rfl⟩) rfl) rfl) rfl) rfl) rfl
end

section
/-! bits and small numbers -/
theorem sy_bitA : ∀ k, k < 16 → ((65535 : Int32) >>> (nI k &&& 31)) &&& 1 = 1 := by decide +kernel
theorem sy_bitL : ∀ k, k < 16 → ((((0 : Int32) ||| ((1 : Int32) <<< (nI k &&& 31))) &&& 65535) >>> (nI k &&& 31)) &&& 1 = 1 := by decide +kernel
theorem sy_bit0 (y : Int32) : ((0 : Int32) >>> y) &&& 1 = 0 := by
  rw [Int32.zero_shiftRight]
  rfl
theorem sy_bit0n (y : Int32) : ¬ ((0 : Int32) >>> y) &&& 1 = 1 := by
  rw [sy_bit0]
  decide
theorem sy_16 (x : Int32) : (16 : Int32) * 0 + x = x := by
  rw [Int32.mul_zero, Int32.zero_add]
theorem sy_fill {f s : Nat → Int32} {i k : Nat} {x : Int32} (hk : k = i) (h : ∀ j, j < i → s j = f j) (hx : x = f i) : ∀ j, j < i + 1 → upd s k x j = f j := by
  intro j hj
  rw [hk]
  by_cases e : j = i
  · rw [e, pk_us, hx]
  · rw [pk_un e]
    exact h j (by omega)
theorem sy_u0 {f : Nat → Int32} {x : Int32} : upd f (0 : Int32).toNatClampNeg x 0 = x := pk_us
/-! the methods, each at the states that the law brings about -/
section
variable {lm cnt td : Int32} {a1 a2 a3 a4 a5 a6 a7 a8 a9 a10 a11 : Nat → Int32}
/-- which way the law's flag 'file' stands -/
def sy_File (x f : Int32) : Prop := (x = 0 ∧ (f < 0 ∨ 15 < f)) ∨ (x = 1 ∧ ∃ k : Nat, k < 16 ∧ f = nI k)
theorem sy_fileN {post : Int32 → Prop} {f : Int32} (hf : f < 0 ∨ 15 < f) (h : post 0) : wpX_isFile post () f := by
  by_cases h0 : f < 0
  · exact br_t h0 h
  · exact br_f h0 (br_t (hf.resolve_left h0) h)
theorem sy_fileY {post : Int32 → Prop} {k : Nat} (hk : k < 16) (h : post 1) : wpX_isFile post () (nI k) :=
  br_f (nI_pos (by omega)) (br_f (nI_nlt (b := k) (a := 15) (by omega) (by decide)) h)
theorem sy_hasY {post : Int32 → Prop} {x f : Int32} (hb : (x >>> (f &&& 31)) &&& 1 = 1) (h : post 1) : wpX_has post () x f := br_t hb h
theorem sy_has0 {post : Int32 → Prop} {x f : Int32} (hx : x = 0) (h : post 0) : wpX_has post () x f := by
  subst hx
  exact br_f (sy_bit0n _) h
theorem sy_77 {post : St2 → Prop} {b : Int32} (H : ∀ a9', post (lm, cnt, td, a1, a2, a3, a4, a5, a6, a7, a8, a9', a10, a11)) : ∃ n, wX_setLive_77 post b lm cnt td n 0 a1 a2 a3 a4 a5 a6 a7 a8 a9 a10 a11 :=
  pk_loop (fun n i s => wX_setLive_77 post b lm cnt td n (nI i) a1 a2 a3 a4 a5 a6 a7 a8 s a10 a11) (fun _ _ => True) 14 0 a9 (by omega) trivial
    (fun n s _ => pk_le 14 14 (fun _ => H s) (fun z => absurd z (by omega)))
    (fun n i s hi _ hw => pk_le 14 i (fun z => absurd z (by omega)) (fun _ => ⟨pk_in i 14 hi, pk_in i 14 hi, nm_e (nm_r (nI_1 i) (hw _ trivial))⟩))
theorem sy_putN {post : Int32 → St2 → Prop} {f c : Int32} (hf : f < 0 ∨ 15 < f) (h : post (-1) (lm, cnt, td, a1, a2, a3, a4, a5, a6, a7, a8, a9, a10, a11)) : wpX_put post (lm, cnt, td, a1, a2, a3, a4, a5, a6, a7, a8, a9, a10, a11) f c := by
  unfold wpX_put
  exact sy_fileN hf (br_t rfl h)
theorem sy_putY {post : Int32 → St2 → Prop} {k : Nat} {c : Int32} (hk : k < 16) (H : ∀ a9', post 0 (0 ||| ((1 : Int32) <<< (nI k &&& 31)), cnt, td, upd a1 k c, a2, a3, a4, a5, a6, a7, a8, a9', a10, a11)) : wpX_put post (0, cnt, td, a1, a2, a3, a4, a5, a6, a7, a8, a9, a10, a11) (nI k) c := by
  unfold wpX_put
  refine sy_fileY hk (br_f (by decide) (nm_r (sy_bit0 _) ?_))
  unfold wpX_setLive
  refine sy_has0 rfl (br_f (by decide) (nm_e (br_f (by decide) (br_f (by decide) ⟨pk_in k 16 hk, nm_r (by rw [nI_clamp (by omega)]) ?_⟩))))
  exact sy_77 H
/-- which way the law's flag 'moves' stands, and the day behind it -/
theorem sy_advN {post : Int32 → St2 → Prop} {d : Int32} (hd : d < 1 ∨ 60 < d) (h : post (-1) (lm, cnt, td, a1, a2, a3, a4, a5, a6, a7, a8, a9, a10, a11)) : wpX_advance post (lm, cnt, td, a1, a2, a3, a4, a5, a6, a7, a8, a9, a10, a11) d := by
  by_cases h0 : d < 1
  · exact br_t h0 h
  · exact br_f h0 (br_f (Int32.not_le.mpr (hd.resolve_left h0)) h)
theorem sy_advY {post : Int32 → St2 → Prop} {d : Int32} (h1 : ¬ d < 1) (h2 : ¬ 60 < d) (h : post d (lm, cnt, d, a1, a2, a3, a4, a5, a6, a7, a8, a9, a10, a11)) : wpX_advance post (lm, cnt, 0, a1, a2, a3, a4, a5, a6, a7, a8, a9, a10, a11) d :=
  br_f h1 (br_t (Int32.not_lt.mp h2) (br_t (by rw [Int32.zero_add]; exact Int32.le_trans (Int32.not_lt.mp h2) (by decide)) (nm_r (Int32.zero_add d) h)))
theorem sy_takeN {post : Int32 → St2 → Prop} {w : Int32} (hw : w < 0 ∨ 2 < w) (h : post (-1) (lm, cnt, td, a1, a2, a3, a4, a5, a6, a7, a8, a9, a10, a11)) : wpX_take post (lm, cnt, td, a1, a2, a3, a4, a5, a6, a7, a8, a9, a10, a11) w := by
  by_cases h0 : w < 0
  · exact br_t h0 h
  · exact br_f h0 (br_f (Int32.not_le.mpr (hw.resolve_left h0)) h)
theorem sy_83 {post : Int32 → St2 → Prop} (h4 : a4 0 = 65535)
    (H : ∀ r c b2 b6 b7 b8 b9 b10, r = 0 → c = 1 → b2 0 = 0 → (∀ j, j < 16 → b6 j = a1 j) → b7 0 = td → b9 0 = 0 → post r (lm, c, td, a1, b2, a3, a4, a5, b6, b7, b8, b9, b10, a11)) :
    ∃ n, wX_take_83 post 0 lm 0 td n 0 a1 a2 a3 a4 a5 a6 a7 a8 a9 a10 a11 :=
  pk_loop (fun n i s => wX_take_83 post 0 lm 0 td n (nI i) a1 a2 a3 a4 a5 s a7 a8 a9 a10 a11) (fun i s => ∀ j, j < i → s j = a1 j) 16 0 a6 (by omega) (fun j hj => absurd hj (by omega))
    (fun n s h => pk_le 16 16 (fun _ => ⟨pk_in 0 14 (by omega), nm_e ⟨pk_in 0 14 (by omega), nm_e ⟨pk_in 0 14 (by omega), nm_e ⟨pk_in 0 14 (by omega), nm_e ⟨pk_in 0 14 (by omega), nm_e (nm_e (H _ _ _ _ _ _ _ _ (by decide) (by decide) sy_u0 h sy_u0 sy_u0))⟩⟩⟩⟩⟩) (fun z => absurd z (by omega)))
    (fun n i s hi h hw => pk_le 16 i (fun z => absurd z (by omega)) (fun _ => ⟨pk_in 0 14 (by omega), sy_hasY (by rw [sb_cl0, h4]; exact sy_bitA i hi) (br_f (by decide) ⟨pk_in i 16 hi, pk_in i 224 (by omega) (sy_16 _), nm_e (nm_r (nI_1 i) (hw _ (sy_fill (by rw [sy_16, nI_clamp (by omega)]) h (by rw [nI_clamp (by omega)]))))⟩)⟩))
theorem sy_takeY {post : Int32 → St2 → Prop} {w : Int32} (h1 : ¬ w < 0) (h2 : ¬ 2 < w) (h10 : a10 0 = 0)
    (H : ∀ r c b2 b3 b4 b5 b6 b7 b8 b9 b10, r = 0 → c = 1 → b2 0 = 0 → b4 0 = 65535 → b5 0 = lm &&& 65535 → (∀ j, j < 16 → b6 j = a1 j) → b7 0 = td → b9 0 = 0 → post r (lm, c, td, a1, b2, b3, b4, b5, b6, b7, b8, b9, b10, a11)) :
    wpX_take post (lm, 0, td, a1, a2, a3, a4, a5, a6, a7, a8, a9, a10, a11) w := by
  refine br_f h1 (br_t (Int32.not_lt.mp h2) (br_f (by decide) ?_))
  refine ⟨1, br_f (by decide) ⟨pk_in 0 14 (by omega), br_t (by rw [sb_cl0]; exact h10) ?_⟩⟩
  have key : ∀ b3, wX_take_62 post 0 65535 0 lm 0 td a1 a2 b3 a4 a5 a6 a7 a8 a9 a10 a11 := fun b3 =>
    ⟨pk_in 0 14 (by omega), nm_e ⟨pk_in 0 14 (by omega), pk_in 0 14 (by omega), nm_e (sy_83 sy_u0 (fun r c b2 b6 b7 b8 b9 b10 e1 e2 e3 e4 e5 e6 => H r c b2 _ _ _ b6 b7 b8 b9 b10 e1 e2 e3 sy_u0 (by rw [sy_u0, sb_cl0]; exact congrArg _ pk_us) e4 e5 e6))⟩⟩
  exact br_c (fun _ => ⟨pk_in 0 14 (by omega), nm_e (br_t rfl (key _))⟩) (fun _ => br_t rfl ⟨pk_in 0 14 (by omega), nm_e (br_t rfl (key _))⟩)
theorem sy_ptN {post : Int32 → Prop} {p : Int32} (hp : p < 0 ∨ cnt ≤ p) (h : post 0) : wpX_isPoint post (lm, cnt, td, a1, a2, a3, a4, a5, a6, a7, a8, a9, a10, a11) p := by
  by_cases h0 : p < 0
  · exact br_t h0 h
  · exact br_f h0 (br_t (hp.resolve_left h0) h)
theorem sy_ptY {post : Int32 → Prop} (h : post 1) : wpX_isPoint post (lm, 1, td, a1, a2, a3, a4, a5, a6, a7, a8, a9, a10, a11) 0 :=
  br_f (by decide) (br_f (by decide) h)
theorem sy_dayN {post : Int32 → Prop} {p : Int32} (hp : p < 0 ∨ cnt ≤ p) (h : post (-1)) : wpX_dayOf post (lm, cnt, td, a1, a2, a3, a4, a5, a6, a7, a8, a9, a10, a11) p := by
  unfold wpX_dayOf
  exact sy_ptN hp (br_t rfl h)
theorem sy_dayY {post : Int32 → Prop} {d : Int32} (h2 : a2 0 = 0) (h7 : a7 0 = d) (h : post d) : wpX_dayOf post (lm, 1, td, a1, a2, a3, a4, a5, a6, a7, a8, a9, a10, a11) 0 := by
  unfold wpX_dayOf
  refine sy_ptY (br_f (by decide) ⟨pk_in 0 14 (by omega), ?_⟩)
  rw [sb_cl0, h2]
  refine ⟨pk_in 0 14 (by omega), ?_⟩
  rw [sb_cl0, h7]
  exact h
theorem sy_conN {post : Int32 → Prop} {p f : Int32} (hp : p < 0 ∨ cnt ≤ p) (h : post 0) : wpX_content post (lm, cnt, td, a1, a2, a3, a4, a5, a6, a7, a8, a9, a10, a11) p f := by
  unfold wpX_content
  exact sy_ptN hp (br_t rfl h)
theorem sy_conF {post : Int32 → Prop} {f : Int32} (hf : f < 0 ∨ 15 < f) (h : post 0) : wpX_content post (lm, 1, td, a1, a2, a3, a4, a5, a6, a7, a8, a9, a10, a11) 0 f := by
  unfold wpX_content
  exact sy_ptY (br_f (by decide) (sy_fileN hf (br_t rfl h)))
theorem sy_conY {post : Int32 → Prop} {k : Nat} (hk : k < 16) (h2 : a2 0 = 0) (h4 : a4 0 = 65535) (h5 : ((a5 0) >>> (nI k &&& 31)) &&& 1 = 1) {c : Int32} (h6 : a6 k = c) (h : post c) : wpX_content post (lm, 1, td, a1, a2, a3, a4, a5, a6, a7, a8, a9, a10, a11) 0 (nI k) := by
  unfold wpX_content
  refine sy_ptY (br_f (by decide) (sy_fileY hk (br_f (by decide) ⟨pk_in 0 14 (by omega), ?_⟩)))
  rw [sb_cl0, h2]
  refine ⟨1, br_f (by decide) ⟨pk_in 0 14 (by omega), sy_hasY (by rw [sb_cl0, h4]; exact sy_bitA k hk) (br_f (by decide) ⟨pk_in 0 14 (by omega), sy_hasY (by rw [sb_cl0]; exact h5) (br_f (by decide) ⟨pk_in k 224 (by omega) (sy_16 _), ?_⟩)⟩)⟩⟩
  rw [sy_16, nI_clamp (by omega), h6]
  exact h
theorem sy_bring {post : Int32 → St2 → Prop} {f : Int32} (h9 : a9 0 = 0) (h : post 0 (lm, cnt, td, a1, a2, a3, a4, a5, a6, a7, a8, a9, a10, a11)) : wpX_bring post (lm, cnt, td, a1, a2, a3, a4, a5, a6, a7, a8, a9, a10, a11) 0 f :=
  ⟨pk_in 0 14 (by omega), sy_has0 h9 (br_t rfl h)⟩
theorem sy_resN {post : Int32 → St2 → Prop} {p : Int32} (hp : p < 0 ∨ cnt ≤ p) (h : post (-1) (lm, cnt, td, a1, a2, a3, a4, a5, a6, a7, a8, a9, a10, a11)) : wpX_restore post (lm, cnt, td, a1, a2, a3, a4, a5, a6, a7, a8, a9, a10, a11) p := by
  unfold wpX_restore
  exact sy_ptN hp (br_t rfl h)
theorem sy_resY {post : Int32 → St2 → Prop} (h2 : a2 0 = 0) (h9 : a9 0 = 0) (h : post 0 (lm, 1, td, a1, a2, a3, a4, a5, a6, a7, a8, a9, a10, a11)) : wpX_restore post (lm, 1, td, a1, a2, a3, a4, a5, a6, a7, a8, a9, a10, a11) 0 := by
  unfold wpX_restore
  refine sy_ptY (br_f (by decide) ?_)
  exact pk_loop (σ := Unit) (fun n i _ => wX_restore_14 post 0 n 0 (nI i) lm 1 td a1 a2 a3 a4 a5 a6 a7 a8 a9 a10 a11) (fun _ _ => True) 16 0 () (by omega) trivial
    (fun n _ _ => pk_le 16 16 (fun _ => h) (fun z => absurd z (by omega)))
    (fun n i _ hi _ hw => pk_le 16 i (fun z => absurd z (by omega)) (fun _ => ⟨pk_in 0 14 (by omega), by
      rw [sb_cl0, h2]
      exact sy_bring h9 (nm_r (by decide) (nm_r (nI_1 i) (hw () trivial)))⟩))
end
end
section
theorem sy_ne0 {p : Int32} (h : ¬ p = 0) : p < 0 ∨ 1 ≤ p := by
  by_cases h0 : p < 0
  · exact Or.inl h0
  · obtain ⟨j, hj, rfl⟩ := nI_of h0
    rcases Nat.eq_zero_or_pos j with e | e
    · exact absurd (by rw [e]; exact nI_0) h
    · exact Or.inr (nI_le (a := 1) e hj)
section
variable {post : Int32 → St0 → Prop} {mc ms kc ks : Nat} {lm cnt td f c d w p : Int32} {a1 a2 a3 a4 a5 a6 a7 a8 a9 a10 a11 : Nat → Int32}
/-- the live set holds the file that the law has put -/
def sy_Live (f c lm : Int32) (a1 : Nat → Int32) : Prop := ∀ k, k < 16 → f = nI k → ((lm &&& 65535) >>> (nI k &&& 31)) &&& 1 = 1 ∧ a1 k = c
/-- the one stored point, in slot 0 -/
def sy_One (f c cnt td : Int32) (a2 a4 a5 a6 a7 a9 : Nat → Int32) : Prop := cnt = 1 ∧ a2 0 = 0 ∧ a4 0 = 65535 ∧ a7 0 = td ∧ a9 0 = 0 ∧ ∀ k, k < 16 → f = nI k → ((a5 0) >>> (nI k &&& 31)) &&& 1 = 1 ∧ a6 k = c
def sy_Taken (x f c cnt td : Int32) (a2 a4 a5 a6 a7 a9 : Nat → Int32) : Prop := (x = 0 ∧ cnt = 0) ∨ (x = 1 ∧ sy_One f c cnt td a2 a4 a5 a6 a7 a9)
def sy_Good (g p f c cnt td : Int32) (a2 a4 a5 a6 a7 a9 : Nat → Int32) : Prop := (g = 0 ∧ (p < 0 ∨ cnt ≤ p)) ∨ (g = 1 ∧ p = 0 ∧ sy_One f c cnt td a2 a4 a5 a6 a7 a9)
def sy_Day (x d td : Int32) : Prop := (x = 0 ∧ td = 0) ∨ (x = 1 ∧ td = d)
theorem sy_195 {g z : Int32} (hp : post 1 ()) (hg : sy_Good g p f c cnt td a2 a4 a5 a6 a7 a9) : wL_lawOf_195 post mc ms p g z z kc ks lm cnt td a1 a2 a3 a4 a5 a6 a7 a8 a9 a10 a11 := by
  rcases hg with ⟨rfl, hq⟩ | ⟨rfl, rfl, rfl, h2, h4, h7, h9, hk⟩
  · exact br_t rfl (sy_resN hq (br_t rfl (br_t rfl hp)))
  · exact br_t rfl (sy_resY h2 h9 (br_f (by decide) (br_t rfl hp)))
theorem sy_167 {x6 g z : Int32} (hp : post 1 ()) (hf : sy_File x6 f) (hg : sy_Good g p f c cnt td a2 a4 a5 a6 a7 a9) : wL_lawOf_167 post mc ms f c p x6 g z z kc ks lm cnt td a1 a2 a3 a4 a5 a6 a7 a8 a9 a10 a11 := by
  have h195 : ∀ z, wL_lawOf_195 post mc ms p g z z kc ks lm cnt td a1 a2 a3 a4 a5 a6 a7 a8 a9 a10 a11 := fun z => sy_195 hp hg
  rcases hg with ⟨rfl, hq⟩ | ⟨rfl, rfl, rfl, h2, h4, h7, h9, hk⟩
  · exact br_t rfl (sy_conN hq (br_t rfl (h195 0)))
  · rcases hf with ⟨rfl, hf⟩ | ⟨rfl, k, hk16, rfl⟩
    · exact br_t rfl (sy_conF hf (br_f (by decide) (br_t rfl (h195 0))))
    · exact br_t rfl (sy_conY hk16 h2 h4 (hk k hk16 rfl).1 (hk k hk16 rfl).2 (br_f (by decide) (br_f (by decide) (h195 c))))
theorem sy_139 {x6 x7 g : Int32} (hp : post 1 ()) (hf : sy_File x6 f) (hd : sy_Day x7 d td) (hg : sy_Good g p f c cnt td a2 a4 a5 a6 a7 a9) : wL_lawOf_139 post mc ms f c d p x6 x7 g kc ks lm cnt td a1 a2 a3 a4 a5 a6 a7 a8 a9 a10 a11 := by
  unfold wL_lawOf_139
  have h167 : ∀ z, wL_lawOf_167 post mc ms f c p x6 g z z kc ks lm cnt td a1 a2 a3 a4 a5 a6 a7 a8 a9 a10 a11 := fun z => sy_167 hp hf hg
  rcases hg with ⟨rfl, hq⟩ | ⟨rfl, rfl, rfl, h2, h4, h7, h9, hk⟩
  · exact sy_dayN hq (br_t rfl (h167 _))
  · rcases hd with ⟨rfl, rfl⟩ | ⟨rfl, rfl⟩
    · exact sy_dayY h2 h7 (br_f (by decide) (br_t rfl (h167 _)))
    · exact sy_dayY h2 h7 (br_f (by decide) (br_f (by decide) (h167 _)))
theorem sy_119 {x6 x7 x8 z : Int32} (hp : post 1 ()) (hf : sy_File x6 f) (hd : sy_Day x7 d td) (ht : sy_Taken x8 f c cnt td a2 a4 a5 a6 a7 a9) : wL_lawOf_119 post mc ms f c d p x6 x7 x8 z z kc ks lm cnt td a1 a2 a3 a4 a5 a6 a7 a8 a9 a10 a11 := by
  have h0 : (p < 0 ∨ cnt ≤ p) → wL_lawOf_139 post mc ms f c d p x6 x7 0 kc ks lm cnt td a1 a2 a3 a4 a5 a6 a7 a8 a9 a10 a11 := fun h => sy_139 hp hf hd (Or.inl ⟨rfl, h⟩)
  rcases ht with ⟨rfl, rfl⟩ | ⟨rfl, h1⟩
  · exact br_t rfl (br_t rfl (h0 (Int32.lt_or_le p 0)))
  · have e : cnt = 1 := h1.1
    exact br_t rfl (br_f (by decide) (br_c (fun e0 => sy_139 hp hf hd (Or.inr ⟨rfl, e0, h1⟩)) (fun e0 => h0 (by rw [e]; exact sy_ne0 e0))))
theorem sy_101 {x6 x7 x8 : Int32} (hp : post 1 ()) (hf : sy_File x6 f) (hd : sy_Day x7 d td) (hl : sy_Live f c lm a1) (h10 : a10 0 = 0) (ht : (x8 = 0 ∧ (w < 0 ∨ 2 < w)) ∨ (x8 = 1 ∧ ¬ w < 0 ∧ ¬ 2 < w)) : wL_lawOf_101 post mc ms f c d w p x6 x7 x8 kc ks lm 0 td a1 a2 a3 a4 a5 a6 a7 a8 a9 a10 a11 := by
  unfold wL_lawOf_101
  rcases ht with ⟨rfl, hw⟩ | ⟨rfl, w1, w2⟩
  · exact sy_takeN hw (br_t rfl (sy_119 hp hf hd (Or.inl ⟨rfl, rfl⟩)))
  · refine sy_takeY w1 w2 h10 (fun r n b2 b3 b4 b5 b6 b7 b8 b9 b10 e1 e2 e3 e4 e5 e6 e7 e8 => ?_)
    subst e1
    refine br_f (by decide) (sy_119 hp hf hd (Or.inr ⟨rfl, e2, e3, e4, e7, e8, fun k hk ek => ⟨?_, ?_⟩⟩))
    · rw [e5]
      exact (hl k hk ek).1
    · rw [e6 k hk]
      exact (hl k hk ek).2
theorem sy_82 {x6 x7 z : Int32} (hp : post 1 ()) (hf : sy_File x6 f) (hd : sy_Day x7 d td) (hl : sy_Live f c lm a1) (h10 : a10 0 = 0) : wL_lawOf_82 post mc ms f c d w p x6 x7 z z kc ks lm 0 td a1 a2 a3 a4 a5 a6 a7 a8 a9 a10 a11 := by
  have h0 : (w < 0 ∨ 2 < w) → wL_lawOf_101 post mc ms f c d w p x6 x7 0 kc ks lm 0 td a1 a2 a3 a4 a5 a6 a7 a8 a9 a10 a11 := fun h => sy_101 hp hf hd hl h10 (Or.inl ⟨rfl, h⟩)
  exact br_t rfl (br_c (fun h => h0 (Or.inl h)) (fun w1 => br_c (fun h => h0 (Or.inr h)) (fun w2 => sy_101 hp hf hd hl h10 (Or.inr ⟨rfl, w1, w2⟩))))
theorem sy_64 {x6 x7 : Int32} (hp : post 1 ()) (hf : sy_File x6 f) (hl : sy_Live f c lm a1) (h10 : a10 0 = 0) (hm : (x7 = 0 ∧ (d < 1 ∨ 60 < d)) ∨ (x7 = 1 ∧ ¬ d < 1 ∧ ¬ 60 < d)) : wL_lawOf_64 post mc ms f c d w p x6 x7 kc ks lm 0 0 a1 a2 a3 a4 a5 a6 a7 a8 a9 a10 a11 := by
  unfold wL_lawOf_64
  rcases hm with ⟨rfl, hd⟩ | ⟨rfl, d1, d2⟩
  · exact sy_advN hd (br_t rfl (sy_82 hp hf (Or.inl ⟨rfl, rfl⟩) hl h10))
  · exact sy_advY d1 d2 (br_f (by decide) (sy_82 hp hf (Or.inr ⟨rfl, rfl⟩) hl h10))
theorem sy_43 {x6 z : Int32} (hp : post 1 ()) (hf : sy_File x6 f) (hl : sy_Live f c lm a1) (h10 : a10 0 = 0) : wL_lawOf_43 post mc ms f c d w p x6 z z kc ks lm 0 0 a1 a2 a3 a4 a5 a6 a7 a8 a9 a10 a11 := by
  have h0 : (d < 1 ∨ 60 < d) → wL_lawOf_64 post mc ms f c d w p x6 0 kc ks lm 0 0 a1 a2 a3 a4 a5 a6 a7 a8 a9 a10 a11 := fun h => sy_64 hp hf hl h10 (Or.inl ⟨rfl, h⟩)
  exact br_t rfl (br_c (fun h => h0 (Or.inl h)) (fun d1 => br_c (fun h => h0 (Or.inr h)) (fun d2 => sy_64 hp hf hl h10 (Or.inr ⟨rfl, d1, d2⟩))))
theorem sy_out {k : Nat} (hk : k < 16) (h : nI k < 0 ∨ 15 < nI k) : False := by
  rcases h with h | h
  · exact nI_pos (by omega) h
  · exact nI_nlt (a := 15) (b := k) (by omega) (by decide) h
theorem sy_24 {x6 : Int32} (hp : post 1 ()) (hf : sy_File x6 f) (h10 : a10 0 = 0) : wL_lawOf_24 post mc ms f c d w p x6 kc ks 0 0 0 a1 a2 a3 a4 a5 a6 a7 a8 a9 a10 a11 := by
  unfold wL_lawOf_24
  have hf' := hf
  rcases hf with ⟨rfl, hn⟩ | ⟨rfl, k, hk, rfl⟩
  · exact sy_putN hn (br_t rfl (sy_43 hp hf' (fun k hk e => absurd hn (by rw [e]; exact sy_out hk)) h10))
  · refine sy_putY hk (fun b9 => br_f (by decide) (sy_43 hp hf' (fun j hj e => ?_) h10))
    have ej : k = j := (nI_eq (by omega) (by omega)).mp e
    subst ej
    exact ⟨sy_bitL k hk, pk_us⟩
theorem sy_lawOf (hp : post 1 ()) : wpL_lawOf post 200 3184 () f c d w p := by
  have h0 : (f < 0 ∨ 15 < f) → wL_lawOf_24 post 200 3184 f c d w p 0 (1 + 199) (14 + 3170) 0 0 0 (fun _ => 0) (fun _ => 0) (fun _ => 0) (fun _ => 0) (fun _ => 0) (fun _ => 0) (fun _ => 0) (fun _ => 0) (fun _ => 0) (fun _ => 0) (fun _ => 0) := fun h => sy_24 hp (Or.inl ⟨rfl, h⟩) rfl
  have h1 : ¬ f < 0 → ¬ 15 < f → wL_lawOf_24 post 200 3184 f c d w p 1 (1 + 199) (14 + 3170) 0 0 0 (fun _ => 0) (fun _ => 0) (fun _ => 0) (fun _ => 0) (fun _ => 0) (fun _ => 0) (fun _ => 0) (fun _ => 0) (fun _ => 0) (fun _ => 0) (fun _ => 0) := fun g1 g2 => by
    obtain ⟨j, hj, e⟩ := nI_of2 (M := 15) (n := 15) (by decide) g1 (Int32.not_lt.mp g2)
    exact sy_24 hp (Or.inr ⟨rfl, j, by omega, e⟩) rfl
  refine ⟨by decide, by decide, 199, 3170, by decide, by decide, ?_⟩
  refine ⟨by decide, by decide, by decide, by decide, by decide, by decide, by decide, by decide, by decide, by decide, by decide, by decide, by decide, by decide, by decide, by decide, by decide, by decide, by decide, by decide, by decide, by decide, ?_⟩
  exact br_c (fun h => h0 (Or.inl h)) (fun g1 => br_c (fun h => h0 (Or.inr h)) (fun g2 => h1 g1 g2))
end
theorem sy_cell {post : Int32 → Prop} {L : Nat} {xs : Nat → Int32} (j : Nat) (hL : L ≤ 5) (hj : j < 5) (h : ∀ r, post r) : wpL_cellAt post L xs () (nI j) :=
  pk_le L j (fun _ => h 0) (fun z => ⟨vp_in_nI z (by omega), h _⟩)
theorem i_vc (xs : Nat → Int32) (L : Nat) (hL : L ≤ 5) : wpL_law (fun r => r = 1) L xs :=
  sy_cell 0 hL (by decide) (fun _ => sy_cell 1 hL (by decide) (fun _ => sy_cell 2 hL (by decide) (fun _ => sy_cell 3 hL (by decide) (fun _ => sy_cell 4 hL (by decide) (fun _ => ⟨200, 3184, by decide, by decide, sy_lawOf rfl⟩)))))
end

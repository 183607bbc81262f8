section
/-! the class's methods at the places that the law reaches -/
section
variable {l : Int32} {a1 a2 a3 a4 a5 a6 a7 a8 a9 a10 a11 a12 a13 a14 a15 : Nat → Int32}
theorem dt_c0 : (0 : Int32).toNatClampNeg = 0 := by decide
theorem dt_c2 : (2 : Int32).toNatClampNeg = 2 := by decide
theorem dt_ix (i : Nat) : (6 * 0 : Int32) + nI i = nI i := by
  rw [show (6 * 0 : Int32) = 0 by decide, Int32.zero_add]
theorem dt_ix8 (i : Nat) : (8 * 0 : Int32) + nI i = nI i := by
  rw [show (8 * 0 : Int32) = 0 by decide, Int32.zero_add]
theorem dt_alive {post : Int32 → Prop} (h : a1 0 = 1) (hp : post 1) : wpX_isAlive post (l, a1, a2, a3, a4, a5, a6, a7, a8, a9, a10, a11, a12, a13, a14, a15) 0 :=
  br_f (by decide) (br_f (by decide) ⟨pk_in 0 4 (by decide), br_f (by rw [dt_c0, h]; decide) hp⟩)
theorem dt_name {post : Int32 → Prop} (hp : post 1) : wpX_isName post () 2 :=
  br_f (by decide) (br_f (by decide) hp)
/-- the first free descriptor of process 0 -/
theorem dt_fd {post : Int32 → Prop} (d : Nat) (hd : d < 6) (h1 : ∀ j, j < d → 0 ≤ a2 j) (h2 : ¬ 0 ≤ a2 d) (hp : post (nI d)) : wpX_freeDescriptor post (l, a1, a2, a3, a4, a5, a6, a7, a8, a9, a10, a11, a12, a13, a14, a15) 0 0 :=
  pk_loop (σ := Unit) (fun n i _ => wX_freeDescriptor_2 post 0 l a1 a2 a3 a4 a5 a6 a7 a8 a9 a10 a11 a12 a13 a14 a15 n (nI i)) (fun _ _ => True) d 0 () (by omega) trivial
    (fun n _ _ => pk_le 6 d (fun z => absurd z (by omega)) (fun _ => ⟨by rw [dt_ix]; exact pk_in d 24 (by omega), br_f (by rw [dt_ix, nI_clamp (by omega)]; exact h2) hp⟩))
    (fun n i _ hi _ hw => pk_le 6 i (fun z => absurd z (by omega)) (fun _ => ⟨by rw [dt_ix]; exact pk_in i 24 (by omega), br_t (by rw [dt_ix, nI_clamp (by omega)]; exact h1 i hi) (nm_r (nI_1 i) (hw () trivial))⟩))
/-- the loop of newOpening, k places still to look at -/
theorem dt_no1 {post : Int32 → St2 → Prop} {x1 x2 : Int32} (d : Nat) (hd : d < 24) (h0 : a3 d = 0) (h1 : ∀ j, j < d → ¬ a3 j = 0)
    (hp : post (nI d) (l, a1, a2, upd a3 d 1, upd a4 d x1, upd a5 d x2, upd a6 d 0, a7, a8, a9, a10, a11, a12, a13, a14, a15)) :
    ∀ (k : Nat) (x3 : Int32), k ≤ 24 → (k ≤ d → x3 = nI d) → wX_newOpening_6 post x1 x2 l a1 a2 a3 a4 a5 a6 a7 a8 a9 a10 a11 a12 a13 a14 a15 (k + 1) x3 (nI k + (-1)) := by
  intro k
  induction k with
  | zero =>
    intro x3 _ hx
    rw [hx (by omega)]
    exact br_t (by decide) ⟨pk_in d 24 hd, nm_r (by rw [nI_clamp (by omega)]) ⟨pk_in d 24 hd, nm_r (by rw [nI_clamp (by omega)]) ⟨pk_in d 24 hd, nm_r (by rw [nI_clamp (by omega)]) ⟨pk_in d 24 hd, nm_r (by rw [nI_clamp (by omega)]) hp⟩⟩⟩⟩
  | succ k ih =>
    intro x3 hk hx
    rw [pk_m1]
    refine br_f (nI_pos (by omega)) ⟨pk_in k 24 (by omega), ?_⟩
    rw [nI_clamp (show k < 2 ^ 31 by omega)]
    refine br_c (fun z => nm_e (ih (nI k) (by omega) (fun h => ?_))) (fun z => nm_e (ih x3 (by omega) (fun h => hx ?_)))
    · rcases Nat.lt_or_ge k d with g | g
      · exact absurd z (h1 k g)
      · rw [show k = d by omega]
    · rcases Nat.lt_or_ge k d with g | g
      · omega
      · exact absurd (show a3 k = 0 by rw [show k = d by omega]; exact h0) z
theorem dt_no {post : Int32 → St2 → Prop} {x1 x2 : Int32} (d : Nat) (hd : d < 24) (h0 : a3 d = 0) (h1 : ∀ j, j < d → ¬ a3 j = 0)
    (hp : post (nI d) (l, a1, a2, upd a3 d 1, upd a4 d x1, upd a5 d x2, upd a6 d 0, a7, a8, a9, a10, a11, a12, a13, a14, a15)) : wpX_newOpening post (l, a1, a2, a3, a4, a5, a6, a7, a8, a9, a10, a11, a12, a13, a14, a15) x1 x2 := by
  have t := dt_no1 d hd h0 h1 hp 24 0 (by omega) (fun h => absurd h (by omega))
  rw [show nI 24 + (-1) = (23 : Int32) by decide] at t
  exact ⟨25, t⟩
/-- the loop of freeFile -/
theorem dt_ff1 {post : Int32 → Prop} (d : Nat) (hd : d < 28) (h0 : a8 d = 0) (h1 : ∀ j, j < d → ¬ a8 j = 0) (hp : post (nI d)) :
    ∀ (k : Nat) (x1 : Int32), k ≤ 28 → (k ≤ d → x1 = nI d) → wX_freeFile_5 post l a1 a2 a3 a4 a5 a6 a7 a8 a9 a10 a11 a12 a13 a14 a15 (k + 1) x1 (nI k + (-1)) := by
  intro k
  induction k with
  | zero =>
    intro x1 _ hx
    rw [hx (by omega)]
    exact br_t (by decide) hp
  | succ k ih =>
    intro x1 hk hx
    rw [pk_m1]
    refine br_f (nI_pos (by omega)) ⟨pk_in k 28 (by omega), ?_⟩
    rw [nI_clamp (show k < 2 ^ 31 by omega)]
    refine br_c (fun z => nm_e (ih (nI k) (by omega) (fun h => ?_))) (fun z => nm_e (ih x1 (by omega) (fun h => hx ?_)))
    · rcases Nat.lt_or_ge k d with g | g
      · exact absurd z (h1 k g)
      · rw [show k = d by omega]
    · rcases Nat.lt_or_ge k d with g | g
      · omega
      · exact absurd (show a8 k = 0 by rw [show k = d by omega]; exact h0) z
theorem dt_ff {post : Int32 → Prop} (d : Nat) (hd : d < 28) (h0 : a8 d = 0) (h1 : ∀ j, j < d → ¬ a8 j = 0) (hp : post (nI d)) : wpX_freeFile post (l, a1, a2, a3, a4, a5, a6, a7, a8, a9, a10, a11, a12, a13, a14, a15) := by
  have t := dt_ff1 (l := l) (a1 := a1) (a2 := a2) (a3 := a3) (a4 := a4) (a5 := a5) (a6 := a6) (a7 := a7) (a9 := a9) (a10 := a10) (a11 := a11) (a12 := a12) (a13 := a13) (a14 := a14) (a15 := a15) d hd h0 h1 hp 28 0 (by omega) (fun h => absurd h (by omega))
  rw [show nI 28 + (-1) = (27 : Int32) by decide] at t
  exact ⟨29, t⟩
/-- the last part of wpX_open: name 2 leads to file 0, d is the descriptor, o the opening -/
theorem dt_o70 {post : Int32 → St2 → Prop} (d o : Nat) (hd : d < 6) (h7 : a7 2 = 0) (ho : o < 24) (h0 : a3 o = 0) (h1 : ∀ j, j < o → ¬ a3 j = 0)
    (hp : post (nI d) (l, a1, upd a2 d (nI o), upd a3 o 1, upd a4 o 1, upd a5 o 0, upd a6 o 0, a7, upd a8 0 (a8 0 + 1), a9, a10, a11, a12, a13, a14, a15)) : wX_open_70 post 0 2 (nI d) l a1 a2 a3 a4 a5 a6 a7 a8 a9 a10 a11 a12 a13 a14 a15 := by
  unfold wX_open_70
  rw [dt_c2, h7, dt_c0]
  exact ⟨pk_in 2 4 (by decide), pk_in 0 28 (by decide), pk_in 0 28 (by decide), nm_e ⟨pk_in 2 4 (by decide), dt_no o ho h0 h1 ⟨by rw [dt_ix]; exact pk_in d 24 (by omega), nm_r (by rw [dt_ix, nI_clamp (by omega)]) hp⟩⟩⟩
/-- wpX_open, where name 2 leads to no file yet -/
theorem dt_openA {post : Int32 → St2 → Prop} (d o : Nat) (hd : d < 6) (h : a1 0 = 1) (hf : ∀ j, j < d → 0 ≤ a2 j) (hf2 : ¬ 0 ≤ a2 d) (h7 : ¬ 0 ≤ a7 2) (h8 : a8 0 = 0) (ho : o < 24) (h0 : a3 o = 0) (h1 : ∀ j, j < o → ¬ a3 j = 0)
    (hp : post (nI d) (l, a1, upd a2 d (nI o), upd a3 o 1, upd a4 o 1, upd a5 o 0, upd a6 o 0, upd a7 2 0, upd (upd a8 0 1) 0 (upd a8 0 1 0 + 1), upd a9 0 0, a10, a11, a12, a13, a14, a15)) : wpX_open post (l, a1, a2, a3, a4, a5, a6, a7, a8, a9, a10, a11, a12, a13, a14, a15) 0 2 := by
  unfold wpX_open
  dsimp only
  rw [dt_c2]
  refine dt_alive h (br_f (by decide) (dt_name (br_f (by decide) (dt_fd d hd hf hf2 (br_t (nI_pos' (by omega)) ⟨pk_in 2 4 (by decide), br_f h7 (dt_ff 0 (by decide) h8 (fun j hj => absurd hj (by omega)) ⟨pk_in 2 4 (by decide), nm_r (e' := upd a7 2 0) rfl ⟨pk_in 0 28 (by decide), nm_r (e' := upd a8 0 1) (by rw [nI_clamp (by omega)]) ⟨pk_in 0 28 (by decide), nm_r (e' := upd a9 0 0) (by rw [nI_clamp (by omega)]) ?_⟩⟩⟩)⟩)))))
  exact dt_o70 d o hd pk_us ho h0 h1 hp
/-- wpX_open, where name 2 leads to file 0 -/
theorem dt_openB {post : Int32 → St2 → Prop} (d o : Nat) (hd : d < 6) (h : a1 0 = 1) (hf : ∀ j, j < d → 0 ≤ a2 j) (hf2 : ¬ 0 ≤ a2 d) (h7 : a7 2 = 0) (ho : o < 24) (h0 : a3 o = 0) (h1 : ∀ j, j < o → ¬ a3 j = 0)
    (hp : post (nI d) (l, a1, upd a2 d (nI o), upd a3 o 1, upd a4 o 1, upd a5 o 0, upd a6 o 0, a7, upd a8 0 (a8 0 + 1), a9, a10, a11, a12, a13, a14, a15)) : wpX_open post (l, a1, a2, a3, a4, a5, a6, a7, a8, a9, a10, a11, a12, a13, a14, a15) 0 2 := by
  unfold wpX_open
  dsimp only
  rw [dt_c2]
  exact dt_alive h (br_f (by decide) (dt_name (br_f (by decide) (dt_fd d hd hf hf2 (br_t (nI_pos' (by omega)) ⟨pk_in 2 4 (by decide), br_t (by rw [h7]; decide) (dt_o70 d o hd h7 ho h0 h1 hp)⟩)))))
theorem dt_of {post : Int32 → Prop} {v : Int32} (d : Nat) (hd : d < 6) (h : a1 0 = 1) (hv : a2 d = v) (hp : post v) : wpX_openingOf post (l, a1, a2, a3, a4, a5, a6, a7, a8, a9, a10, a11, a12, a13, a14, a15) 0 (nI d) := by
  unfold wpX_openingOf
  dsimp only
  rw [dt_ix, nI_clamp (show d < 2 ^ 31 by omega), hv]
  exact dt_alive h (br_f (by decide) (br_f (nI_pos (by omega)) (br_t (nI_le (b := 5) (by omega) (by decide)) ⟨pk_in d 24 (by omega), hp⟩)))
theorem dt_dup {post : Int32 → St2 → Prop} (h : a1 0 = 1) (h2 : a2 0 = 0) (h21 : ¬ 0 ≤ a2 1) (hp : post 1 (l, a1, upd a2 1 0, upd a3 0 (a3 0 + 1), a4, a5, a6, a7, a8, a9, a10, a11, a12, a13, a14, a15)) : wpX_dup post (l, a1, a2, a3, a4, a5, a6, a7, a8, a9, a10, a11, a12, a13, a14, a15) 0 0 := by
  unfold wpX_dup
  dsimp only
  refine dt_of 0 (by decide) h h2 ?_
  rw [dt_c0]
  exact br_t (by decide) (dt_fd 1 (by decide) (fun j hj => by rw [show j = 0 by omega, h2]; decide) h21 (br_t (by decide) ⟨pk_in 1 24 (by decide), nm_r (e' := upd a2 1 0) (by rw [dt_ix, nI_clamp (by omega)]) ⟨pk_in 0 24 (by decide), pk_in 0 24 (by decide), nm_e hp⟩⟩))
/-- writeFile at opening o of file 0, place t -/
theorem dt_wf {post : Int32 → St2 → Prop} {v : Int32} (o t len : Nat) (ho : o < 24) (ht : t < 8) (hl : len < 9) (h5 : a5 o = 0) (h6 : a6 o = nI t) (h9 : a9 0 = nI len)
    (hp : ∀ b : Nat → Int32, b 0 = nI (if t = len then t + 1 else len) → post 0 (l, a1, a2, a3, a4, a5, upd a6 o (nI (t + 1)), a7, a8, b, upd a10 t v, a11, a12, a13, a14, a15)) : wpX_writeFile post (l, a1, a2, a3, a4, a5, a6, a7, a8, a9, a10, a11, a12, a13, a14, a15) (nI o) v := by
  unfold wpX_writeFile
  dsimp only
  rw [nI_clamp (show o < 2 ^ 31 by omega)]
  refine ⟨pk_in o 24 ho, nm_r h5 ⟨pk_in o 24 ho, nm_r h6 ?_⟩⟩
  rw [dt_ix8, nI_clamp (show t < 2 ^ 31 by omega), dt_c0, h9, nI_1]
  refine pk_lt t 8 (fun _ => ⟨pk_in t 224 (by omega), nm_e ⟨pk_in o 24 ho, nm_e ⟨pk_in 0 28 (by decide), pk_eq t len (fun z => ⟨pk_in 0 28 (by decide), nm_e (hp _ ?_)⟩) (fun z => hp _ ?_)⟩⟩⟩) (fun z => absurd z (by omega))
  · rw [if_pos z, pk_us]
  · rw [if_neg z, h9]
theorem dt_write {post : Int32 → St2 → Prop} {x : Int32} (d o t len : Nat) (hd : d < 6) (h : a1 0 = 1) (h2 : a2 d = nI o) (ho : o < 24) (ht : t < 8) (hl : len < 9) (h4 : a4 o = 1) (h5 : a5 o = 0) (h6 : a6 o = nI t) (h9 : a9 0 = nI len)
    (hp : ∀ b : Nat → Int32, b 0 = nI (if t = len then t + 1 else len) → post 0 (l, a1, a2, a3, a4, a5, upd a6 o (nI (t + 1)), a7, a8, b, upd a10 t (x &&& 255), a11, a12, a13, a14, a15)) : wpX_write post (l, a1, a2, a3, a4, a5, a6, a7, a8, a9, a10, a11, a12, a13, a14, a15) 0 (nI d) x := by
  unfold wpX_write
  dsimp only
  refine dt_of d hd h h2 ?_
  rw [nI_clamp (show o < 2 ^ 31 by omega), h4]
  exact br_f (nI_pos (by omega)) ⟨pk_in o 24 ho, br_f (by decide) ⟨pk_in o 24 ho, br_t rfl (dt_wf o t len ho ht hl h5 h6 h9 hp)⟩⟩
theorem dt_rf {post : Int32 → St2 → Prop} (o t len : Nat) (ho : o < 24) (ht : t < 8) (hl : len < 9) (h5 : a5 o = 0) (h6 : a6 o = nI t) (h9 : a9 0 = nI len)
    (hp : t < len → post (a10 t) (l, a1, a2, a3, a4, a5, upd a6 o (nI (t + 1)), a7, a8, a9, a10, a11, a12, a13, a14, a15)) (hq : len ≤ t → post (-5) (l, a1, a2, a3, a4, a5, a6, a7, a8, a9, a10, a11, a12, a13, a14, a15)) : wpX_readFile post (l, a1, a2, a3, a4, a5, a6, a7, a8, a9, a10, a11, a12, a13, a14, a15) (nI o) := by
  unfold wpX_readFile
  dsimp only
  rw [nI_clamp (show o < 2 ^ 31 by omega)]
  refine ⟨pk_in o 24 ho, nm_r h5 ⟨pk_in o 24 ho, nm_r h6 ?_⟩⟩
  rw [dt_ix8, nI_clamp (show t < 2 ^ 31 by omega), dt_c0, h9, nI_1]
  exact ⟨pk_in 0 28 (by decide), pk_lt t len (fun z => ⟨pk_in o 24 ho, nm_e ⟨pk_in t 224 (by omega), hp z⟩⟩) (fun z => hq z)⟩
theorem dt_read {post : Int32 → St2 → Prop} (d o t len : Nat) (hd : d < 6) (h : a1 0 = 1) (h2 : a2 d = nI o) (ho : o < 24) (ht : t < 8) (hl : len < 9) (h4 : a4 o = 1) (h5 : a5 o = 0) (h6 : a6 o = nI t) (h9 : a9 0 = nI len)
    (hp : t < len → post (a10 t) (l, a1, a2, a3, a4, a5, upd a6 o (nI (t + 1)), a7, a8, a9, a10, a11, a12, a13, a14, a15)) (hq : len ≤ t → post (-5) (l, a1, a2, a3, a4, a5, a6, a7, a8, a9, a10, a11, a12, a13, a14, a15)) : wpX_read post (l, a1, a2, a3, a4, a5, a6, a7, a8, a9, a10, a11, a12, a13, a14, a15) 0 (nI d) := by
  unfold wpX_read
  dsimp only
  refine dt_of d hd h h2 ?_
  rw [nI_clamp (show o < 2 ^ 31 by omega), h4]
  exact br_f (nI_pos (by omega)) ⟨pk_in o 24 ho, br_f (by decide) ⟨pk_in o 24 ho, br_t rfl (dt_rf o t len ho ht hl h5 h6 h9 hp hq)⟩⟩
theorem dt_seek {post : Int32 → St2 → Prop} {x v : Int32} (h : a1 0 = 1) (h2 : a2 0 = 0) (h4 : a4 0 = 1) (h5 : a5 0 = 0) (h9 : a9 0 = v)
    (hp : ¬ x < 0 → x ≤ v → post 0 (l, a1, a2, a3, a4, a5, upd a6 0 x, a7, a8, a9, a10, a11, a12, a13, a14, a15)) (hq : x < 0 ∨ ¬ x ≤ v → post (-1) (l, a1, a2, a3, a4, a5, a6, a7, a8, a9, a10, a11, a12, a13, a14, a15)) : wpX_seek post (l, a1, a2, a3, a4, a5, a6, a7, a8, a9, a10, a11, a12, a13, a14, a15) 0 0 x := by
  unfold wpX_seek
  dsimp only
  refine dt_of 0 (by decide) h h2 ?_
  rw [dt_c0, h4, h5, dt_c0, h9]
  exact br_f (by decide) ⟨pk_in 0 24 (by decide), br_t rfl (br_c (fun z => hq (Or.inl z)) (fun z => ⟨pk_in 0 24 (by decide), pk_in 0 28 (by decide), br_c (fun g => ⟨pk_in 0 24 (by decide), nm_e (hp z g)⟩) (fun g => hq (Or.inr g))⟩))⟩
end
end
section
/-! the constructor -/
section
variable {l : Int32} {a1 a2 a3 a4 a5 a6 a7 a8 a9 a10 a11 a12 a13 a14 a15 : Nat → Int32}
theorem dt_fill {s : Nat → Int32} {i k : Nat} (hk : k = i) (h : ∀ j, j < i → s j = -1) : ∀ j, j < i + 1 → upd s k (-1) j = -1 := by
  intro j hj
  rw [hk]
  by_cases e : j = i
  · rw [e, pk_us]
  · rw [pk_un e]
    exact h j (by omega)
theorem dt_i147 {post : St2 → Prop} {mc ms kc ks : Nat} {f : Int32} (hp : ∀ b : Nat → Int32, (∀ j, j < 4 → b j = -1) → post (1, upd a1 0 1, a2, a3, a4, a5, a6, b, a8, a9, a10, a11, a12, a13, a14, a15)) : ∃ n, wX_init_147 post mc ms kc ks f n 0 a1 a2 a3 a4 a5 a6 a7 a8 a9 a10 a11 a12 a13 a14 a15 :=
  pk_loop (fun n i s => wX_init_147 post mc ms kc ks f n (nI i) a1 a2 a3 a4 a5 a6 s a8 a9 a10 a11 a12 a13 a14 a15) (fun i s => ∀ j, j < i → s j = -1) 4 0 a7 (by omega) (fun j hj => absurd hj (by omega))
    (fun n s h => pk_le 4 4 (fun _ => nm_e (hp s h)) (fun z => absurd z (by omega)))
    (fun n i s hi h hw => pk_le 4 i (fun z => absurd z (by omega)) (fun _ => ⟨pk_in i 4 hi, nm_e (nm_r (nI_1 i) (hw _ (dt_fill (nI_clamp (by omega)) h)))⟩))
theorem dt_i126 {post : St2 → Prop} {mc ms kc ks : Nat} {f : Int32} (hp : ∀ c b : Nat → Int32, (∀ j, j < 24 → c j = -1) → (∀ j, j < 4 → b j = -1) → post (1, upd a1 0 1, c, a3, a4, a5, a6, b, a8, a9, a10, a11, a12, a13, a14, a15)) : ∃ n, wX_init_126 post mc ms kc ks f n 0 a1 a2 a3 a4 a5 a6 a7 a8 a9 a10 a11 a12 a13 a14 a15 :=
  pk_loop (fun n i s => wX_init_126 post mc ms kc ks f n (nI i) a1 s a3 a4 a5 a6 a7 a8 a9 a10 a11 a12 a13 a14 a15) (fun i s => ∀ j, j < i → s j = -1) 24 0 a2 (by omega) (fun j hj => absurd hj (by omega))
    (fun n s h => pk_le 24 24 (fun _ => dt_i147 (fun b hb => hp s b h hb)) (fun z => absurd z (by omega)))
    (fun n i s hi h hw => pk_le 24 i (fun z => absurd z (by omega)) (fun _ => ⟨pk_in i 24 hi, nm_e (nm_r (nI_1 i) (hw _ (dt_fill (nI_clamp (by omega)) h)))⟩))
/-- what the law needs of a new table: c, b: opening, fileOf -/
theorem dt_init {post : St2 → Prop} (f : Int32) (hp : ∀ c b : Nat → Int32, (∀ j, j < 24 → c j = -1) → (∀ j, j < 4 → b j = -1) → post (1, upd (fun _ => 0) 0 1, c, (fun _ => 0), (fun _ => 0), (fun _ => 0), (fun _ => 0), b, (fun _ => 0), (fun _ => 0), (fun _ => 0), (fun _ => 0), (fun _ => 0), (fun _ => 0), (fun _ => 0), (fun _ => 0))) : wpX_init post 15 648 f := by
  unfold wpX_init
  refine ⟨by omega, by omega, by omega, by omega, by omega, by omega, by omega, by omega, by omega, by omega, by omega, by omega, by omega, by omega, by omega, by omega, by omega, by omega, by omega, by omega, by omega, by omega, by omega, by omega, by omega, by omega, by omega, by omega, by omega, by omega, ?_⟩
  exact dt_i126 hp
end
end
section
/-! the law -/
section
variable {l : Int32} {a1 a2 a3 a4 a5 a6 a7 a8 a9 a10 a11 a12 a13 a14 a15 : Nat → Int32}
/-- the picture: opening 0 at place t of file 0, which holds len bytes, v0 and v1 the first two; descriptors 0 and 1 lead there, 2 is free -/
def dt_K (t len : Nat) (v0 v1 : Int32) (a1 a2 a3 a4 a5 a6 a7 a9 a10 : Nat → Int32) : Prop :=
  a1 0 = 1 ∧ a2 0 = 0 ∧ a2 1 = 0 ∧ ¬ 0 ≤ a2 2 ∧ ¬ a3 0 = 0 ∧ a3 1 = 0 ∧ a4 0 = 1 ∧ a5 0 = 0 ∧ a6 0 = nI t ∧ a7 2 = 0 ∧ a9 0 = nI len ∧ a10 0 = v0 ∧ a10 1 = v1
theorem dt_Kw {post : Int32 → St2 → Prop} {x v0 v1 : Int32} {t len : Nat} (d : Nat) (hd : d < 2) (ht : t < 8) (hl : len < 9) (k : dt_K t len v0 v1 a1 a2 a3 a4 a5 a6 a7 a9 a10)
    (hp : ∀ b6 b9 b10 : Nat → Int32, dt_K (t + 1) (if t = len then t + 1 else len) (if t = 0 then x &&& 255 else v0) (if t = 1 then x &&& 255 else v1) a1 a2 a3 a4 a5 b6 a7 b9 b10 → post 0 (l, a1, a2, a3, a4, a5, b6, a7, a8, b9, b10, a11, a12, a13, a14, a15)) : wpX_write post (l, a1, a2, a3, a4, a5, a6, a7, a8, a9, a10, a11, a12, a13, a14, a15) 0 (nI d) x := by
  obtain ⟨k1, k20, k21, k22, k30, k31, k4, k5, k6, k7, k9, k100, k101⟩ := k
  have h2 : a2 d = nI 0 := by
    rcases (show d = 0 ∨ d = 1 by omega) with e | e
    · rw [e, nI_0]; exact k20
    · rw [e, nI_0]; exact k21
  refine dt_write d 0 t len (by omega) k1 h2 (by decide) ht hl k4 k5 k6 k9 (fun b hb => hp _ b _ ⟨k1, k20, k21, k22, k30, k31, k4, k5, pk_us, k7, hb, ?_, ?_⟩)
  · by_cases e : t = 0
    · rw [if_pos e, e, pk_us]
    · rw [if_neg e, pk_un (fun z => e z.symm)]
      exact k100
  · by_cases e : t = 1
    · rw [if_pos e, e, pk_us]
    · rw [if_neg e, pk_un (fun z => e z.symm)]
      exact k101
/-- the law's end: place t is 1 or 2 -/
theorem dt_160 {post : Int32 → St0 → Prop} {mc ms kc ks : Nat} {x0 x1 x3 : Int32} (t : Nat) (ht : t = 1 ∨ t = 2) (k : dt_K t 2 (x0 &&& 255) (x1 &&& 255) a1 a2 a3 a4 a5 a6 a7 a9 a10) (hp : post 1 ()) :
    wL_lawOf_160 post mc ms x0 x1 x3 (nI t) kc ks l a1 a2 a3 a4 a5 a6 a7 a8 a9 a10 a11 a12 a13 a14 a15 := by
  unfold wL_lawOf_160
  refine dt_Kw 0 (by decide) (by omega) (by decide) k (fun b6 b9 b10 k' => br_t rfl ?_)
  obtain ⟨k1, k20, k21, k22, k30, k31, k4, k5, k6, k7, k9, k100, k101⟩ := k'
  have hl : 2 ≤ (if t = 2 then t + 1 else 2) ∧ (if t = 2 then t + 1 else 2) < 9 := by
    rcases ht with e | e <;> subst e <;> decide
  rw [if_neg (show ¬ t = 0 by omega)] at k100
  have f2 : ∀ j, j < 2 → (0 : Int32) ≤ a2 j := by
    intro j hj
    rcases (show j = 0 ∨ j = 1 by omega) with e | e
    · rw [e, k20]; decide
    · rw [e, k21]; decide
  have f3 : ∀ j, j < 1 → ¬ a3 j = 0 := by
    intro j hj
    rw [show j = 0 by omega]
    exact k30
  refine dt_openB 2 1 (by decide) k1 f2 k22 k7 (by decide) k31 f3 (br_t rfl ?_)
  refine dt_read 2 1 0 _ (by decide) k1 pk_us (by decide) (by decide) hl.2 pk_us pk_us pk_us k9 (fun _ => ?_) (fun z => absurd z (by omega))
  refine br_t k100 ?_
  refine dt_read 2 1 1 _ (by decide) k1 pk_us (by decide) (by decide) hl.2 pk_us pk_us pk_us k9 (fun _ => ?_) (fun z => absurd z (by omega))
  refine pk_eq t 1 (fun e => ?_) (fun e => ?_)
  · rw [if_pos e] at k101
    exact br_t k101 hp
  · rw [if_neg e] at k101
    exact br_t k101 hp
theorem dt_103 {post : Int32 → St0 → Prop} {mc ms kc ks : Nat} {x0 x1 x3 : Int32} (t : Nat) (ht : t ≤ 2) (k : dt_K t 2 (x0 &&& 255) (x1 &&& 255) a1 a2 a3 a4 a5 a6 a7 a9 a10) (hp : post 1 ()) :
    wL_lawOf_103 post mc ms x0 x1 x3 (nI t) kc ks l a1 a2 a3 a4 a5 a6 a7 a8 a9 a10 a11 a12 a13 a14 a15 := by
  unfold wL_lawOf_103
  have k' := k
  obtain ⟨k1, k20, k21, k22, k30, k31, k4, k5, k6, k7, k9, k100, k101⟩ := k'
  refine dt_read 1 0 t 2 (by decide) k1 k21 (by decide) (by omega) (by decide) k4 k5 k6 k9 (fun z => ?_) (fun z => ?_)
  · have K : dt_K (t + 1) 2 (x0 &&& 255) (x1 &&& 255) a1 a2 a3 a4 a5 (upd a6 0 (nI (t + 1))) a7 a9 a10 := ⟨k1, k20, k21, k22, k30, k31, k4, k5, pk_us, k7, k9, k100, k101⟩
    refine pk_eq t 0 (fun e => ?_) (fun e => pk_eq t 1 (fun g => ?_) (fun g => absurd z (by omega)))
    · subst e
      exact br_t k100 (br_f (by decide) (dt_160 1 (Or.inl rfl) K hp))
    · subst g
      exact br_t k101 (br_f (by decide) (dt_160 2 (Or.inr rfl) K hp))
  · have e : t = 2 := by omega
    subst e
    exact br_f (by decide) (br_f (by decide) (br_t rfl (br_t (by decide) (dt_160 2 (Or.inr rfl) k hp))))
theorem dt_68 {post : Int32 → St0 → Prop} {mc ms kc ks : Nat} {x0 x1 x2 x3 z : Int32} (hz : (z = 0 ∧ (x2 < 0 ∨ 2 < x2)) ∨ (z = 1 ∧ ¬ x2 < 0 ∧ ¬ 2 < x2)) (k : dt_K 2 2 (x0 &&& 255) (x1 &&& 255) a1 a2 a3 a4 a5 a6 a7 a9 a10) (hp : post 1 ()) :
    wL_lawOf_68 post mc ms x0 x1 x2 x3 z kc ks l a1 a2 a3 a4 a5 a6 a7 a8 a9 a10 a11 a12 a13 a14 a15 := by
  unfold wL_lawOf_68
  have k' := k
  obtain ⟨k1, k20, k21, k22, k30, k31, k4, k5, k6, k7, k9, k100, k101⟩ := k'
  refine dt_seek (v := 2) k1 k20 k4 k5 k9 (fun g1 g2 => ?_) (fun g => ?_)
  · have e : z = 1 := by
      rcases hz with ⟨_, q⟩ | q
      · rcases q with q | q
        · exact absurd q g1
        · exact absurd g2 (Int32.not_le.mpr q)
      · exact q.1
    subst e
    obtain ⟨t, ht, et⟩ := nI_of2 (M := 2) (n := 2) (by decide) g1 g2
    subst et
    exact br_f (by decide) (br_t rfl (br_f (by decide) (dt_103 t ht ⟨k1, k20, k21, k22, k30, k31, k4, k5, pk_us, k7, k9, k100, k101⟩ hp)))
  · have e : z = 0 := by
      rcases hz with q | ⟨_, q1, q2⟩
      · exact q.1
      · rcases g with g | g
        · exact absurd g q1
        · exact absurd (Int32.not_le.mp g) q2
    subst e
    exact br_t rfl (br_t rfl (br_t rfl (dt_103 2 (by decide) k hp)))
end
theorem dt_lawOf (p0 p1 p2 p3 : Int32) : wpL_lawOf (fun r _ => r = 1) 346 5520 () p0 p1 p2 p3 := by
  unfold wpL_lawOf
  refine ⟨by omega, by omega, 15, 648, by omega, by omega, dt_init 0 (fun c b hc hb => ?_)⟩
  refine dt_openA 0 0 (by decide) pk_us (fun j hj => absurd hj (by omega)) (by rw [hc 0 (by decide)]; decide) (by rw [hb 2 (by decide)]; decide) rfl (by decide) rfl (fun j hj => absurd hj (by omega)) (br_t rfl ?_)
  refine dt_dup pk_us pk_us (by rw [pk_un (by decide), hc 1 (by decide)]; decide) (br_t rfl ?_)
  refine dt_Kw (v0 := 0) (v1 := 0) (t := 0) (len := 0) 0 (by decide) (by decide) (by decide) ⟨pk_us, ?_, pk_us, ?_, ?_, ?_, pk_us, pk_us, pk_us, pk_us, pk_us, rfl, rfl⟩ (fun b6 b9 b10 k => br_t rfl ?_)
  · rw [pk_un (by decide), pk_us]; rfl
  · rw [pk_un (by decide), pk_un (by decide), hc 2 (by decide)]; decide
  · rw [pk_us, pk_us]; decide
  · rw [pk_un (by decide), pk_un (by decide)]
  refine dt_Kw 1 (by decide) (by decide) (by decide) k (fun c6 c9 c10 k' => br_t rfl ?_)
  exact br_c (fun z => dt_68 (Or.inl ⟨rfl, Or.inl z⟩) k' rfl) (fun z => br_c (fun g => dt_68 (Or.inl ⟨rfl, Or.inr g⟩) k' rfl) (fun g => dt_68 (Or.inr ⟨rfl, z, g⟩) k' rfl))
theorem dt_cell {post : Int32 → Prop} {L : Nat} {xs : Nat → Int32} (k : Nat) (hk : k < 4) (hL : L ≤ 4) (hp : ∀ v, post v) : wpL_cellAt post L xs () (nI k) :=
  pk_le L k (fun _ => hp 0) (fun z => ⟨pk_in k L z, hp _⟩)
theorem i_vc (xs : Nat → Int32) (L : Nat) (hL : L ≤ 4) : wpL_law (fun r => r = 1) L xs := by
  unfold wpL_law
  exact dt_cell 0 (by decide) hL (fun p0 => dt_cell 1 (by decide) hL (fun p1 => dt_cell 2 (by decide) hL (fun p2 => dt_cell 3 (by decide) hL (fun p3 => ⟨346, 5520, by omega, by omega, dt_lawOf p0 p1 p2 p3⟩))))
end

section
/-! ===== rows over upd, shifts, tables ===== -/
theorem sl_uu (f : Nat → Int32) (k : Nat) (x y : Int32) : upd (upd f k x) k y = upd f k y := by
  funext j
  by_cases h : j = k
  · rw [h, pk_us, pk_us]
  · rw [pk_un h, pk_un h, pk_un h]
theorem sl_ui {f : Nat → Int32} {k : Nat} {x : Int32} (h : f k = x) : upd f k x = f := by
  funext j
  by_cases e : j = k
  · rw [e, pk_us, h]
  · rw [pk_un e]
theorem sl_sh : ∀ c, c < 32 → nI c >>> ((2 : Int32) &&& 31) = nI (c / 4) := by decide +kernel
theorem sl_hash (k : Nat) : ∃ h : Nat, h < 16 ∧ (nI k * 7) &&& 15 = nI h := pk_andE (nI k * 7) 4 (by decide)
/-- the one item's place in the heap: it isn't there and the heap is empty, or it is the top of a heap of one -/
def sl_HP (f2 : Int32) (a17 : Nat → Int32) (c : Nat) : Prop := (f2 = 0 ∧ a17 c = -1) ∨ (f2 = 1 ∧ a17 c = 0)
/-- how many of the first n places hold z -/
def sl_cnt (a : Nat → Int32) (z : Int32) : Nat → Nat
  | 0 => 0
  | n + 1 => if a n = z then sl_cnt a z n + 1 else sl_cnt a z n
theorem sl_cnt_le (a : Nat → Int32) (z : Int32) : ∀ n, sl_cnt a z n ≤ n
  | 0 => Nat.le_refl 0
  | n + 1 => by
    have := sl_cnt_le a z n
    unfold sl_cnt
    split <;> omega
section
variable {f0 : Int64} {f1 f2 : Int32} {a1 a2 a3 a4 a5 a6 a7 : Nat → Int32} {a8 : Nat → Int64} {a9 a10 a11 a12 a13 a14 a15 a16 a17 : Nat → Int32}
/-! ===== find ===== -/
theorem sl_find_hit {post : Int32 → Prop} {k h c : Nat} (hk : k < 256) (hh : (nI k * 7) &&& 15 = nI h) (h16 : h < 16) (hc : c < 32) (h9 : a9 h = nI c) (h5 : a5 c = nI k) (hp : post (nI c)) :
    wpX_find post (f0, f1, f2, a1, a2, a3, a4, a5, a6, a7, a8, a9, a10, a11, a12, a13, a14, a15, a16, a17) (nI k) := by
  have ec := nI_clamp (show c < 2 ^ 31 by omega)
  refine br_f (nI_pos (by omega)) (br_t (nI_le (b := 255) (by omega) (by decide)) ⟨by rw [hh]; exact vp_in_nI h16 (by decide), nm_r (e' := nI c) (by rw [hh, nI_clamp (by omega)]; exact h9) ⟨1, ?_⟩⟩)
  exact br_f (by decide) (br_f (nI_pos (by omega)) ⟨vp_in_nI hc (by decide), br_t (by rw [ec]; exact h5) hp⟩)
theorem sl_find_miss {post : Int32 → Prop} {k h : Nat} (hk : k < 256) (hh : (nI k * 7) &&& 15 = nI h) (h16 : h < 16) (h9 : a9 h = -1) (hp : post (-1)) :
    wpX_find post (f0, f1, f2, a1, a2, a3, a4, a5, a6, a7, a8, a9, a10, a11, a12, a13, a14, a15, a16, a17) (nI k) := by
  refine br_f (nI_pos (by omega)) (br_t (nI_le (b := 255) (by omega) (by decide)) ⟨by rw [hh]; exact vp_in_nI h16 (by decide), nm_r (e' := -1) (by rw [hh, nI_clamp (by omega)]; exact h9) ⟨1, ?_⟩⟩)
  exact br_f (by decide) (br_t (by decide) hp)
/-! ===== the order of use, with one item of the sort ===== -/
theorem sl_unhang {post : St2 → Prop} {c s : Nat} (hc : c < 32) (hs : s < 3) (h13 : a13 c = -1) (h14 : a14 c = -1)
    (hp : post (f0, f1, f2, a1, a2, a3, a4, a5, a6, a7, a8, a9, a10, upd a11 s (-1), upd a12 s (-1), a13, a14, a15, a16, a17)) :
    wpX_unhang post (f0, f1, f2, a1, a2, a3, a4, a5, a6, a7, a8, a9, a10, a11, a12, a13, a14, a15, a16, a17) (nI c) (nI s) := by
  have ec := nI_clamp (show c < 2 ^ 31 by omega)
  have es := nI_clamp (show s < 2 ^ 31 by omega)
  refine ⟨vp_in_nI hc (by decide), nm_r (e' := -1) (by rw [ec]; exact h13) ⟨vp_in_nI hc (by decide), nm_r (e' := -1) (by rw [ec]; exact h14) (br_t (by decide) ⟨vp_in_nI hs (by decide), nm_r (e' := upd a11 s (-1)) (by rw [es]) ?_⟩)⟩⟩
  exact br_t (by decide) ⟨vp_in_nI hs (by decide), nm_r (e' := upd a12 s (-1)) (by rw [es]) hp⟩
theorem sl_hangLast {post : St2 → Prop} {c s : Nat} (hc : c < 32) (hs : s < 3) (h12 : a12 s = -1)
    (hp : post (f0, f1, f2, a1, a2, a3, a4, a5, a6, a7, a8, a9, a10, upd a11 s (nI c), upd a12 s (nI c), upd a13 c (-1), upd a14 c (-1), a15, a16, a17)) :
    wpX_hangLast post (f0, f1, f2, a1, a2, a3, a4, a5, a6, a7, a8, a9, a10, a11, a12, a13, a14, a15, a16, a17) (nI c) (nI s) := by
  have ec := nI_clamp (show c < 2 ^ 31 by omega)
  have es := nI_clamp (show s < 2 ^ 31 by omega)
  refine ⟨vp_in_nI hs (by decide), nm_r (e' := -1) (by rw [es]; exact h12) ⟨vp_in_nI hc (by decide), nm_r (e' := upd a13 c (-1)) (by rw [ec]) ⟨vp_in_nI hc (by decide), nm_r (e' := upd a14 c (-1)) (by rw [ec]) ⟨vp_in_nI hs (by decide), nm_r (e' := upd a12 s (nI c)) (by rw [es]) ?_⟩⟩⟩⟩
  exact br_t (by decide) ⟨vp_in_nI hs (by decide), nm_r (e' := upd a11 s (nI c)) (by rw [es]) hp⟩
/-- the use of the one item of a sort leaves the state as it is -/
theorem sl_use {post : St2 → Prop} {c s : Nat} (hc : c < 32) (hs : s < 3) (h1 : a1 (c / 4) = nI s) (h11 : a11 s = nI c) (h12 : a12 s = nI c) (h13 : a13 c = -1) (h14 : a14 c = -1)
    (hp : post (f0, f1, f2, a1, a2, a3, a4, a5, a6, a7, a8, a9, a10, a11, a12, a13, a14, a15, a16, a17)) :
    wpX_use post (f0, f1, f2, a1, a2, a3, a4, a5, a6, a7, a8, a9, a10, a11, a12, a13, a14, a15, a16, a17) (nI c) := by
  refine ⟨by rw [sl_sh c hc]; exact vp_in_nI (by omega) (by decide), nm_r (e' := nI s) (by rw [sl_sh c hc, nI_clamp (by omega)]; exact h1) (sl_unhang hc hs h13 h14 (sl_hangLast hc hs pk_us ?_))⟩
  have e11 : upd (upd a11 s (-1)) s (nI c) = a11 := by rw [sl_uu, sl_ui h11]
  have e12 : upd (upd a12 s (-1)) s (nI c) = a12 := by rw [sl_uu, sl_ui h12]
  rw [e11, e12, sl_ui h13, sl_ui h14]
  exact hp
/-! ===== ends ===== -/
theorem sl_leave {post : St2 → Prop} {c : Nat} (hc : c < 32) (hh : sl_HP f2 a17 c)
    (hp : ∀ b17 : Nat → Int32, b17 c = -1 → (∀ j, j ≠ c → b17 j = a17 j) → post (f0, f1, 0, a1, a2, a3, a4, a5, a6, a7, a8, a9, a10, a11, a12, a13, a14, a15, a16, b17)) :
    wpX_leaveHeap post (f0, f1, f2, a1, a2, a3, a4, a5, a6, a7, a8, a9, a10, a11, a12, a13, a14, a15, a16, a17) (nI c) := by
  have ec := nI_clamp (show c < 2 ^ 31 by omega)
  rcases hh with ⟨e, h⟩ | ⟨e, h⟩
  · subst e
    exact ⟨vp_in_nI hc (by decide), nm_r (e' := -1) (by rw [ec]; exact h) (br_f (by decide) (hp a17 h (fun _ _ => rfl)))⟩
  · subst e
    exact ⟨vp_in_nI hc (by decide), nm_r (e' := 0) (by rw [ec]; exact h) (br_t (by decide) ⟨vp_in_nI hc (by decide), nm_r (e' := upd a17 c (-1)) (by rw [ec]) (nm_r (e' := 0) (by decide) (br_t (by decide) (hp (upd a17 c (-1)) pk_us (fun _ z => pk_un z))))⟩)⟩
theorem sl_rise0 {post : St2 → Prop} {z : Int32} (hz : z = 0)
    (hp : post (f0, f1, f2, a1, a2, a3, a4, a5, a6, a7, a8, a9, a10, a11, a12, a13, a14, a15, a16, a17)) :
    wpX_rise post (f0, f1, f2, a1, a2, a3, a4, a5, a6, a7, a8, a9, a10, a11, a12, a13, a14, a15, a16, a17) z := by
  subst hz
  exact ⟨vp_in_iff.mpr (by decide), nm_e ⟨1, br_f (by decide) (br_t (by decide) hp)⟩⟩
theorem sl_setEnd {post : St2 → Prop} {c t : Nat} (hc : c < 32) (ht : t < 512) (hh : sl_HP f2 a17 c)
    (hp : ∀ (g2 : Int32) (b8 : Nat → Int64) (b16 b17 : Nat → Int32), sl_HP g2 b17 c → (t = 0 → g2 = 0) → (∀ j, j ≠ c → b17 j = a17 j) → post (f0, f1, g2, a1, a2, a3, a4, a5, a6, a7, b8, a9, a10, a11, a12, a13, a14, a15, b16, b17)) :
    wpX_setEnd post (f0, f1, f2, a1, a2, a3, a4, a5, a6, a7, a8, a9, a10, a11, a12, a13, a14, a15, a16, a17) (nI c) (nI t) := by
  have ec := nI_clamp (show c < 2 ^ 31 by omega)
  unfold wpX_setEnd
  refine sl_leave hc hh (fun b17 h17 k17 => ?_)
  refine pk_eq t 0 (fun z => ?_) (fun z => ?_)
  · exact ⟨vp_in_nI hc (by decide), nm_e (pk_le t 0 (fun _ => hp 0 _ a16 b17 (Or.inl ⟨rfl, h17⟩) (fun _ => rfl) k17) (fun w => absurd w (by omega)))⟩
  · refine ⟨vp_in_nI hc (by decide), nm_e (pk_le t 0 (fun w => absurd w (by omega)) (fun _ => ⟨vp_in_iff.mpr (by decide), nm_e ⟨vp_in_nI hc (by decide), nm_r (e' := upd b17 c 0) (by rw [ec]) (nm_r (e' := 1) (by decide) ?_)⟩⟩))⟩
    exact sl_rise0 (by decide) (hp 1 _ _ (upd b17 c 0) (Or.inr ⟨rfl, pk_us⟩) (fun w => absurd w z) (fun j hj => by rw [pk_un hj]; exact k17 j hj))
/-! ===== the questions ===== -/
theorem sl_items {post : Int32 → Prop} {s : Nat} (hs : s < 3) (hp : post (a15 s)) :
    wpX_items post (f0, f1, f2, a1, a2, a3, a4, a5, a6, a7, a8, a9, a10, a11, a12, a13, a14, a15, a16, a17) (nI s) := by
  have es := nI_clamp (show s < 2 ^ 31 by omega)
  exact br_f (nI_pos (by omega)) (br_t (nI_le (b := 2) (by omega) (by decide)) ⟨vp_in_nI hs (by decide), by rw [es]; exact hp⟩)
/-- what pages counts: the sort itself, or -1 for 3 -/
def sl_ask (q : Nat) : Int32 := if q = 3 then -1 else nI q
theorem sl_pages {post : Int32 → Prop} {q : Nat} (hq : q < 4) (hp : post (nI (sl_cnt a1 (sl_ask q) 8))) :
    wpX_pages post (f0, f1, f2, a1, a2, a3, a4, a5, a6, a7, a8, a9, a10, a11, a12, a13, a14, a15, a16, a17) (nI q) := by
  refine br_f (nI_pos (by omega)) (br_t (nI_le (b := 3) (by omega) (by decide)) ?_)
  refine pk_loop (σ := Int32) (fun n i x => wX_pages_15 post (nI q) f0 f1 f2 a1 a2 a3 a4 a5 a6 a7 a8 a9 a10 a11 a12 a13 a14 a15 a16 a17 n x (nI i)) (fun i x => x = nI (sl_cnt a1 (sl_ask q) i)) 8 0 0 (by omega) rfl ?_ ?_
  · intro n x h
    subst h
    exact br_t (by decide) hp
  · intro n i x hi h hw
    subst h
    have ei := nI_clamp (show i < 2 ^ 31 by omega)
    refine br_f (nI_ge (b := 8) hi (by decide)) ⟨vp_in_nI hi (by decide), ?_⟩
    rw [ei]
    have step : ∀ z : Int32, z = sl_ask q → wX_pages_38 post (wX_pages_15 post (nI q) f0 f1 f2 a1 a2 a3 a4 a5 a6 a7 a8 a9 a10 a11 a12 a13 a14 a15 a16 a17 n) (nI q) (nI i) z (a1 i) (nI (sl_cnt a1 (sl_ask q) i)) f0 f1 f2 a1 a2 a3 a4 a5 a6 a7 a8 a9 a10 a11 a12 a13 a14 a15 a16 a17 := by
      intro z hz
      subst hz
      refine br_c (fun e => nm_r (nI_1 _) (nm_r (nI_1 i) (hw _ ?_))) (fun e => nm_r (nI_add _ 0) (nm_r (nI_1 i) (hw _ ?_)))
      · show _ = nI (if a1 i = sl_ask q then _ else _)
        rw [if_pos e]
      · show _ = nI (if a1 i = sl_ask q then _ else _)
        rw [if_neg e]
        rfl
    exact pk_eq q 3 (fun e => step (-1) (by unfold sl_ask; rw [if_pos e])) (fun e => step (nI q) (by unfold sl_ask; rw [if_neg e]))
theorem sl_tick {post : Int32 → St2 → Prop} (h2 : f2 = 0)
    (hp : ∀ g0 : Int64, post 0 (g0, f1, f2, a1, a2, a3, a4, a5, a6, a7, a8, a9, a10, a11, a12, a13, a14, a15, a16, a17)) :
    wpX_tick post (f0, f1, f2, a1, a2, a3, a4, a5, a6, a7, a8, a9, a10, a11, a12, a13, a14, a15, a16, a17) 600 := by
  subst h2
  exact br_f (by decide) (br_t (by decide) (nm_e ⟨1, br_f (by decide) (br_t (by decide) (hp _))⟩))
theorem sl_number {post : Int32 → Prop} {k h c : Nat} (hk : k < 256) (hh : (nI k * 7) &&& 15 = nI h) (h16 : h < 16) (hc : c < 32) (h9 : a9 h = nI c) (h5 : a5 c = nI k) (hp : post (a7 c)) :
    wpX_number post (f0, f1, f2, a1, a2, a3, a4, a5, a6, a7, a8, a9, a10, a11, a12, a13, a14, a15, a16, a17) (nI k) := by
  have ec := nI_clamp (show c < 2 ^ 31 by omega)
  unfold wpX_number
  exact sl_find_hit hk hh h16 hc h9 h5 (br_t (nI_pos' (by omega)) ⟨vp_in_nI hc (by decide), by rw [ec]; exact hp⟩)
theorem sl_get {post : Int32 → St2 → Prop} {k h c s : Nat} (hk : k < 256) (hh : (nI k * 7) &&& 15 = nI h) (h16 : h < 16) (hc : c < 32) (hs : s < 3) (h9 : a9 h = nI c) (h5 : a5 c = nI k)
    (h1 : a1 (c / 4) = nI s) (h11 : a11 s = nI c) (h12 : a12 s = nI c) (h13 : a13 c = -1) (h14 : a14 c = -1)
    (hp : post (a6 c) (f0, f1, f2, a1, a2, a3, a4, a5, a6, a7, a8, a9, a10, a11, a12, a13, a14, a15, a16, a17)) :
    wpX_get post (f0, f1, f2, a1, a2, a3, a4, a5, a6, a7, a8, a9, a10, a11, a12, a13, a14, a15, a16, a17) (nI k) := by
  have ec := nI_clamp (show c < 2 ^ 31 by omega)
  unfold wpX_get
  refine sl_find_hit hk hh h16 hc h9 h5 (br_t (nI_pos' (by omega)) (sl_use hc hs h1 h11 h12 h13 h14 ⟨vp_in_nI hc (by decide), ?_⟩))
  rw [ec]
  exact hp
/-- a swap at another number than the item's -/
theorem sl_swapNo {post : Int32 → St2 → Prop} {k h c : Nat} {m v : Int32} (hk : k < 256) (hh : (nI k * 7) &&& 15 = nI h) (h16 : h < 16) (hc : c < 32) (h9 : a9 h = nI c) (h5 : a5 c = nI k) (h7 : ¬ a7 c = m)
    (hp : post 0 (f0, f1, f2, a1, a2, a3, a4, a5, a6, a7, a8, a9, a10, a11, a12, a13, a14, a15, a16, a17)) :
    wpX_swap post (f0, f1, f2, a1, a2, a3, a4, a5, a6, a7, a8, a9, a10, a11, a12, a13, a14, a15, a16, a17) (nI k) m v := by
  have ec := nI_clamp (show c < 2 ^ 31 by omega)
  unfold wpX_swap
  exact sl_find_hit hk hh h16 hc h9 h5 (br_f (nI_pos (by omega)) ⟨vp_in_nI hc (by decide), br_f (by rw [ec]; exact h7) (br_t (nI_pos' (by omega)) hp)⟩)
end
end
section
section
variable {f0 : Int64} {f1 f2 : Int32} {a1 a2 a3 a4 a5 a6 a7 : Nat → Int32} {a8 : Nat → Int64} {a9 a10 a11 a12 a13 a14 a15 a16 a17 : Nat → Int32}
/-! ===== pages ===== -/
/-- the cells of the new page are linked: the last of them is the first free one -/
theorem sl_link {post : St2 → Prop} {s p e : Nat} (hs : s < 3) (hp8 : p < 8) (he : 0 < e) (he4 : e ≤ 4)
    (H : ∀ b2 b3 : Nat → Int32, b2 s = nI (4 * p + (e - 1)) → (∀ j, j ≠ s → b2 j = a2 j) → post (f0, f1, f2, a1, b2, b3, a4, a5, a6, a7, a8, a9, a10, a11, a12, a13, a14, a15, a16, a17)) :
    ∃ n, wX_givePage_64 post (nI s) (nI p) (nI e) f0 f1 f2 n 0 a1 a2 a3 a4 a5 a6 a7 a8 a9 a10 a11 a12 a13 a14 a15 a16 a17 := by
  have es := nI_clamp (show s < 2 ^ 31 by omega)
  refine pk_loop (σ := (Nat → Int32) × (Nat → Int32)) (fun n i x => wX_givePage_64 post (nI s) (nI p) (nI e) f0 f1 f2 n (nI i) a1 x.1 x.2 a4 a5 a6 a7 a8 a9 a10 a11 a12 a13 a14 a15 a16 a17) (fun i x => (0 < i → x.1 s = nI (4 * p + (i - 1))) ∧ (∀ j, j ≠ s → x.1 j = a2 j)) e 0 (a2, a3) (by omega) ⟨fun z => absurd z (by omega), fun _ _ => rfl⟩ ?_ ?_
  · intro n x h
    exact pk_le e e (fun _ => H x.1 x.2 (h.1 he) h.2) (fun z => absurd z (by omega))
  · intro n i x hi h hw
    have ep : (4 * nI p) + nI i = nI (4 * p + i) := by
      rw [show (4 : Int32) = nI 4 from rfl, pk_mul, nI_add]
    refine pk_le e i (fun z => absurd z (by omega)) (fun _ => ⟨vp_in_nI hs (by decide), by rw [ep]; exact vp_in_nI (by omega) (by decide), nm_e ⟨vp_in_nI hs (by decide), nm_r (e' := upd x.1 s (nI (4 * p + i))) (by rw [es, ep]) (nm_r (nI_1 i) (hw (_, _) ⟨fun _ => ?_, fun j hj => ?_⟩))⟩⟩)
    · exact pk_us
    · show upd x.1 s (nI (4 * p + i)) j = a2 j
      rw [pk_un hj]
      exact h.2 j hj
theorem sl_givePage {post : St2 → Prop} {s p : Nat} (hs : s < 3) (hp8 : p < 8) (hlo : ∀ j, j < p → 0 ≤ a1 j) (hhi : ∀ j, p ≤ j → j < 8 → a1 j = -1)
    (H : ∀ (c : Nat) (b2 b3 : Nat → Int32), 4 * p ≤ c → c < 4 * p + 4 → b2 s = nI c → (∀ j, j ≠ s → b2 j = a2 j) → post (f0, f1, f2, upd a1 p (nI s), b2, b3, a4, a5, a6, a7, a8, a9, a10, a11, a12, a13, a14, a15, a16, a17)) :
    wpX_givePage post (f0, f1, f2, a1, a2, a3, a4, a5, a6, a7, a8, a9, a10, a11, a12, a13, a14, a15, a16, a17) (nI s) := by
  have epp := nI_clamp (show p < 2 ^ 31 by omega)
  have L : ∀ (i : Nat) (x2 : Int32), i ≤ 8 → (i ≤ p → x2 = nI p) → wX_givePage_5 post (nI s) f0 f1 f2 a1 a2 a3 a4 a5 a6 a7 a8 a9 a10 a11 a12 a13 a14 a15 a16 a17 (i + 1) x2 (nI i + (-1)) := by
    intro i
    induction i with
    | zero =>
      intro x2 _ h
      have h' := h (by omega)
      subst h'
      refine br_t (by decide) (br_t (nI_pos' (by omega)) ⟨vp_in_nI hp8 (by decide), nm_r (e' := upd a1 p (nI s)) (by rw [epp]) ?_⟩)
      refine pk_eq s 0 (fun z => ?_) (fun z => pk_eq s 1 (fun w => ?_) (fun w => ?_))
      · exact sl_link (e := 4) hs hp8 (by omega) (by omega) (fun b2 b3 h2 k2 => H _ b2 b3 (by omega) (by omega) h2 k2)
      · exact sl_link (e := 2) hs hp8 (by omega) (by omega) (fun b2 b3 h2 k2 => H _ b2 b3 (by omega) (by omega) h2 k2)
      · exact sl_link (e := 1) hs hp8 (by omega) (by omega) (fun b2 b3 h2 k2 => H _ b2 b3 (by omega) (by omega) h2 k2)
    | succ i ih =>
      intro x2 hi h
      have ei := nI_clamp (show i < 2 ^ 31 by omega)
      rw [pk_m1]
      refine br_f (nI_pos (by omega)) ⟨vp_in_nI (by omega) (by decide), ?_⟩
      rw [ei]
      by_cases hip : i < p
      · exact br_t (hlo i hip) (nm_e (ih x2 (by omega) (fun _ => h (by omega))))
      · refine br_f (by rw [hhi i (by omega) (by omega)]; decide) (nm_e (ih (nI i) (by omega) (fun z => ?_)))
        rw [show i = p by omega]
  exact ⟨9, L 8 (-1) (by omega) (fun z => absurd z (by omega))⟩
theorem sl_makeRoom {post : Int32 → St2 → Prop} {s p : Nat} (hs : s < 3) (hp8 : p < 8) (h2 : a2 s = -1) (hlo : ∀ j, j < p → 0 ≤ a1 j) (hhi : ∀ j, p ≤ j → j < 8 → a1 j = -1)
    (H : ∀ (c : Nat) (b2 b3 : Nat → Int32), 4 * p ≤ c → c < 4 * p + 4 → (∀ j, j ≠ s → b2 j = a2 j) → post (nI c) (f0, f1, f2, upd a1 p (nI s), b2, b3, a4, a5, a6, a7, a8, a9, a10, a11, a12, a13, a14, a15, a16, a17)) :
    wpX_makeRoom post (f0, f1, f2, a1, a2, a3, a4, a5, a6, a7, a8, a9, a10, a11, a12, a13, a14, a15, a16, a17) (nI s) := by
  have es := nI_clamp (show s < 2 ^ 31 by omega)
  refine ⟨vp_in_nI hs (by decide), br_f (by rw [es, h2]; decide) (sl_givePage hs hp8 hlo hhi (fun c b2 b3 c1 c2 hb kb => ?_))⟩
  refine ⟨vp_in_nI hs (by decide), br_t (by rw [es, hb]; exact nI_pos' (by omega)) ⟨vp_in_nI hs (by decide), nm_r (e' := nI c) (by rw [es]; exact hb) (br_f (nI_pos (by omega)) ⟨vp_in_nI (by omega) (by decide), vp_in_nI hs (by decide), nm_e (H c _ b3 c1 c2 (fun j hj => ?_))⟩)⟩⟩
  rw [es, pk_un hj]
  exact kb j hj
/-! ===== a new item ===== -/
theorem sl_enter {post : St2 → Prop} {k h c s : Nat} (hh : (nI k * 7) &&& 15 = nI h) (h16 : h < 16) (hc : c < 32) (hs : s < 3) (h12 : a12 s = -1) (h15 : a15 s = 0)
    (H : ∀ (b4 : Nat → Int32) (b8 : Nat → Int64) (b10 : Nat → Int32), post (f0, f1, f2, a1, a2, a3, b4, upd a5 c (nI k), a6, a7, b8, upd a9 h (nI c), b10, upd a11 s (nI c), upd a12 s (nI c), upd a13 c (-1), upd a14 c (-1), upd a15 s 1, a16, a17)) :
    wpX_enter post (f0, f1, f2, a1, a2, a3, a4, a5, a6, a7, a8, a9, a10, a11, a12, a13, a14, a15, a16, a17) (nI c) (nI k) (nI s) := by
  have ec := nI_clamp (show c < 2 ^ 31 by omega)
  have es := nI_clamp (show s < 2 ^ 31 by omega)
  have eh := nI_clamp (show h < 2 ^ 31 by omega)
  have hi : vp_in ((nI k * 7) &&& 15) 16 := by rw [hh]; exact vp_in_nI h16 (by decide)
  refine ⟨vp_in_nI hc (by decide), nm_e ⟨vp_in_nI hc (by decide), nm_r (e' := upd a5 c (nI k)) (by rw [ec]) ⟨vp_in_nI hc (by decide), nm_e ⟨hi, vp_in_nI hc (by decide), nm_e ⟨hi, nm_r (e' := upd a9 h (nI c)) (by rw [hh, eh]) ⟨vp_in_nI hs (by decide), vp_in_nI hs (by decide), nm_r (e' := upd a15 s 1) (by rw [es, h15]; rfl) (sl_hangLast hc hs h12 (H _ _ _))⟩⟩⟩⟩⟩⟩
theorem sl_125 {post : Int32 → St2 → Prop} {c s t : Nat} {x : Int32} (hc : c < 32) (hs : s < 3) (ht : t < 512) (h1 : a1 (c / 4) = nI s) (h11 : a11 s = nI c) (h12 : a12 s = nI c) (h13 : a13 c = -1) (h14 : a14 c = -1) (hh : sl_HP f2 a17 c)
    (H : ∀ (g2 : Int32) (b8 : Nat → Int64) (b16 b17 : Nat → Int32), sl_HP g2 b17 c → (t = 0 → g2 = 0) → (∀ j, j ≠ c → b17 j = a17 j) → post (f1 + 1) (f0, f1 + 1, g2, a1, a2, a3, a4, a5, upd a6 c x, upd a7 c (f1 + 1), b8, a9, a10, a11, a12, a13, a14, a15, b16, b17)) :
    wX_store_125 post x (nI t) (nI c) f0 f1 f2 a1 a2 a3 a4 a5 a6 a7 a8 a9 a10 a11 a12 a13 a14 a15 a16 a17 := by
  have ec := nI_clamp (show c < 2 ^ 31 by omega)
  refine ⟨vp_in_nI hc (by decide), nm_r (e' := upd a6 c x) (by rw [ec]) (sl_use hc hs h1 h11 h12 h13 h14 (sl_setEnd hc ht hh (fun g2 b8 b16 b17 p1 p2 p3 => ?_)))⟩
  exact nm_e ⟨vp_in_nI hc (by decide), nm_r (e' := upd a7 c (f1 + 1)) (by rw [ec]) (H g2 b8 b16 b17 p1 p2 p3)⟩
theorem sl_112 {post : Int32 → St2 → Prop} {k h c s t : Nat} {x : Int32} (hh : (nI k * 7) &&& 15 = nI h) (h16 : h < 16) (hc : c < 32) (hs : s < 3) (ht : t < 512) (h1 : a1 (c / 4) = nI s) (h12 : a12 s = -1) (h15 : a15 s = 0) (h17 : a17 c = -1) (hf : f2 = 0)
    (H : ∀ (g2 : Int32) (b4 : Nat → Int32) (b8 : Nat → Int64) (b10 b16 b17 : Nat → Int32), sl_HP g2 b17 c → (t = 0 → g2 = 0) → (∀ j, j ≠ c → b17 j = a17 j) →
      post (f1 + 1) (f0, f1 + 1, g2, a1, a2, a3, b4, upd a5 c (nI k), upd a6 c x, upd a7 c (f1 + 1), b8, upd a9 h (nI c), b10, upd a11 s (nI c), upd a12 s (nI c), upd a13 c (-1), upd a14 c (-1), upd a15 s 1, b16, b17)) :
    wX_store_112 post (nI k) x (nI t) (nI s) (nI c) f0 f1 f2 a1 a2 a3 a4 a5 a6 a7 a8 a9 a10 a11 a12 a13 a14 a15 a16 a17 := by
  unfold wX_store_112
  exact sl_enter hh h16 hc hs h12 h15 (fun b4 b8 b10 => sl_125 hc hs ht h1 pk_us pk_us pk_us pk_us (Or.inl ⟨hf, h17⟩) (fun g2 b8 b16 b17 p1 p2 p3 => H g2 b4 b8 b10 b16 b17 p1 p2 p3))
/-! ===== an item is given up: the first of its chain, the one of its sort ===== -/
theorem sl_giveUp {post : St2 → Prop} {k h c s : Nat} (hh : (nI k * 7) &&& 15 = nI h) (h16 : h < 16) (hc : c < 32) (hs : s < 3) (h1 : a1 (c / 4) = nI s) (h5 : a5 c = nI k) (h9 : a9 h = nI c) (h13 : a13 c = -1) (h14 : a14 c = -1) (hP : sl_HP f2 a17 c)
    (H : ∀ (b2 b3 b4 b17 : Nat → Int32), (∀ j, j ≠ c → b17 j = a17 j) → post (f0, f1, 0, a1, b2, b3, b4, a5, a6, a7, a8, upd a9 h (a10 c), a10, upd a11 s (-1), upd a12 s (-1), a13, a14, upd a15 s (a15 s - 1), a16, b17)) :
    wpX_giveUp post (f0, f1, f2, a1, a2, a3, a4, a5, a6, a7, a8, a9, a10, a11, a12, a13, a14, a15, a16, a17) (nI c) := by
  have ec := nI_clamp (show c < 2 ^ 31 by omega)
  have es := nI_clamp (show s < 2 ^ 31 by omega)
  have eh := nI_clamp (show h < 2 ^ 31 by omega)
  refine ⟨by rw [sl_sh c hc]; exact vp_in_nI (by omega) (by decide), nm_r (e' := nI s) (by rw [sl_sh c hc, nI_clamp (by omega)]; exact h1) ?_⟩
  refine ⟨vp_in_nI hc (by decide), nm_r (e' := nI h) (by rw [ec, h5]; exact hh) ⟨vp_in_nI h16 (by decide), br_t (by rw [eh]; exact h9) ⟨vp_in_nI hc (by decide), vp_in_nI h16 (by decide), nm_r (e' := upd a9 h (a10 c)) (by rw [eh, ec]) ?_⟩⟩⟩
  refine sl_unhang hc hs h13 h14 (sl_leave hc hP (fun b17 _ k17 => ?_))
  exact ⟨vp_in_nI hc (by decide), nm_e ⟨vp_in_nI hs (by decide), vp_in_nI hs (by decide), nm_r (e' := upd a15 s (a15 s - 1)) (by rw [es]) ⟨vp_in_nI hs (by decide), vp_in_nI hc (by decide), nm_e ⟨vp_in_nI hs (by decide), nm_e (H _ _ _ b17 k17)⟩⟩⟩⟩
/-! ===== store ===== -/
/-- the sort of a length -/
def sl_srt (a : Nat) : Nat := if a ≤ 3 then 0 else if a ≤ 6 then 1 else 2
theorem sl_srt0 {a : Nat} (h : a ≤ 3) : sl_srt a = 0 := by
  unfold sl_srt
  rw [if_pos h]
theorem sl_srt1 {a : Nat} (h : 3 < a) (h' : a ≤ 6) : sl_srt a = 1 := by
  unfold sl_srt
  rw [if_neg (by omega), if_pos h']
theorem sl_srt2 {a : Nat} (h : 3 < a) (h' : 6 < a) : sl_srt a = 2 := by
  unfold sl_srt
  rw [if_neg (by omega), if_neg (by omega)]
theorem sl_srt3 (a : Nat) : sl_srt a < 3 := by
  unfold sl_srt
  split
  · omega
  · split <;> omega
theorem sl_top {post : Int32 → St2 → Prop} {k a t : Nat} {x : Int32} (hk : k < 256) (ha : 1 ≤ a) (ha' : a ≤ 12) (ht : t < 512)
    (H : wX_store_57 post (nI k) x (nI t) (nI (sl_srt a)) f0 f1 f2 a1 a2 a3 a4 a5 a6 a7 a8 a9 a10 a11 a12 a13 a14 a15 a16 a17) :
    wpX_store post (f0, f1, f2, a1, a2, a3, a4, a5, a6, a7, a8, a9, a10, a11, a12, a13, a14, a15, a16, a17) (nI k) (nI a) x (nI t) := by
  refine br_f (nI_pos (by omega)) (pk_lt 255 k (fun z => absurd z (by omega)) (fun _ => pk_lt a 1 (fun z => absurd z (by omega)) (fun _ => pk_lt 12 a (fun z => absurd z (by omega)) (fun _ => br_f (nI_pos (by omega)) (pk_le t 1000 (fun _ => ?_) (fun z => absurd z (by omega)))))))
  refine pk_lt 3 a (fun z => pk_lt 6 a (fun w => ?_) (fun w => ?_)) (fun z => ?_)
  · rw [sl_srt2 z w] at H
    exact H
  · rw [sl_srt1 z w] at H
    exact H
  · rw [sl_srt0 z] at H
    exact H
end
end
section
/-! ===== counting pages ===== -/
def sl_bit (v z : Int32) : Nat := if v = z then 1 else 0
theorem sl_bit_1 (v : Int32) : sl_bit v v = 1 := if_pos rfl
theorem sl_bit_0 {v z : Int32} (h : ¬ v = z) : sl_bit v z = 0 := if_neg h
theorem sl_cnt_s (a : Nat → Int32) (z : Int32) (n : Nat) : sl_cnt a z (n + 1) = sl_bit (a n) z + sl_cnt a z n := by
  show (if a n = z then sl_cnt a z n + 1 else sl_cnt a z n) = _
  unfold sl_bit
  split <;> omega
theorem sl_cnt8 {a : Nat → Int32} {v w : Int32} (z : Int32) (h0 : a 0 = v) (h1 : a 1 = w) (h : ∀ j, 2 ≤ j → j < 8 → a j = -1) : sl_cnt a z 8 = sl_bit v z + sl_bit w z + 6 * sl_bit (-1) z := by
  rw [sl_cnt_s, sl_cnt_s, sl_cnt_s, sl_cnt_s, sl_cnt_s, sl_cnt_s, sl_cnt_s, sl_cnt_s, h 7 (by omega) (by omega), h 6 (by omega) (by omega), h 5 (by omega) (by omega), h 4 (by omega) (by omega), h 3 (by omega) (by omega), h 2 (by omega) (by omega), h1, h0, show sl_cnt a z 0 = 0 from rfl]
  omega
theorem sl_nm {s : Nat} (hs : s < 3) : ¬ nI s = -1 := by
  rcases (by omega : s = 0 ∨ s = 1 ∨ s = 2) with e | e | e <;> subst e <;> decide
theorem sl_mn {s : Nat} (hs : s < 3) : ¬ (-1 : Int32) = nI s := fun h => sl_nm hs h.symm
theorem sl_nn {s u : Nat} (hs : s < 3) (hu : u < 3) (h : s ≠ u) : ¬ nI s = nI u := fun e => h ((nI_eq (by omega) (by omega)).mp e)
/-! ===== the pictures: one item behind the first store, and what stands behind the second ===== -/
def sl_One (k h c s : Nat) (f2 : Int32) (a1 a2 a5 a9 a11 a12 a13 a14 a15 a17 : Nat → Int32) : Prop :=
  c < 4 ∧ sl_HP f2 a17 c ∧ a1 0 = nI s ∧ (∀ j, 1 ≤ j → j < 8 → a1 j = -1) ∧ (∀ j, j < 3 → j ≠ s → a2 j = -1) ∧ a5 c = nI k ∧ a9 h = nI c ∧ a11 s = nI c ∧ a12 s = nI c ∧ (∀ j, j < 3 → j ≠ s → a12 j = -1) ∧ a13 c = -1 ∧ a14 c = -1 ∧ a15 s = 1 ∧ (∀ j, j < 3 → j ≠ s → a15 j = 0) ∧ (∀ j, j < 32 → j ≠ c → a17 j = -1)
def sl_Fin (k h c s u : Nat) (x : Int32) (a1 a5 a6 a7 a9 a11 a12 a13 a14 a15 : Nat → Int32) : Prop :=
  c < 32 ∧ a1 (c / 4) = nI u ∧ a5 c = nI k ∧ a6 c = x ∧ a7 c = 2 ∧ a9 h = nI c ∧ a11 u = nI c ∧ a12 u = nI c ∧ a13 c = -1 ∧ a14 c = -1 ∧ a15 u = 1 ∧ (s = u → sl_cnt a1 (-1) 8 = 7) ∧ (s ≠ u → a15 s = 0 ∧ sl_cnt a1 (-1) 8 = 6) ∧ sl_cnt a1 (nI s) 8 = 1 ∧ sl_cnt a1 (nI u) 8 = 1
section
variable {f0 : Int64} {f1 f2 : Int32} {a1 a2 a3 a4 a5 a6 a7 : Nat → Int32} {a8 : Nat → Int64} {a9 a10 a11 a12 a13 a14 a15 a16 a17 : Nat → Int32}
theorem sl_first {post : Int32 → St2 → Prop} {k h a t : Nat} {x : Int32} (hk : k < 256) (hh : (nI k * 7) &&& 15 = nI h) (h16 : h < 16) (ha : 1 ≤ a) (ha' : a ≤ 12) (ht : t < 512) (hf1 : f1 = 0) (hf2 : f2 = 0)
    (h1 : ∀ j, j < 8 → a1 j = -1) (h2 : ∀ j, j < 3 → a2 j = -1) (h9 : ∀ j, j < 16 → a9 j = -1) (h12 : ∀ j, j < 3 → a12 j = -1) (h15 : ∀ j, j < 3 → a15 j = 0) (h17 : ∀ j, j < 32 → a17 j = -1)
    (H : ∀ (c : Nat) (g2 : Int32) (b1 b2 b3 b4 b5 b6 b7 : Nat → Int32) (b8 : Nat → Int64) (b9 b10 b11 b12 b13 b14 b15 b16 b17 : Nat → Int32), sl_One k h c (sl_srt a) g2 b1 b2 b5 b9 b11 b12 b13 b14 b15 b17 →
      post 1 (f0, 1, g2, b1, b2, b3, b4, b5, b6, b7, b8, b9, b10, b11, b12, b13, b14, b15, b16, b17)) :
    wpX_store post (f0, f1, f2, a1, a2, a3, a4, a5, a6, a7, a8, a9, a10, a11, a12, a13, a14, a15, a16, a17) (nI k) (nI a) x (nI t) := by
  have hs := sl_srt3 a
  have e1 : f1 + 1 = 1 := by rw [hf1]; decide
  refine sl_top hk ha ha' ht ?_
  unfold wX_store_57
  refine (sl_find_miss hk hh h16 (h9 h h16) (br_t (by decide) ?_))
  unfold wX_store_85
  refine sl_makeRoom (p := 0) hs (by omega) (h2 _ hs) (fun j z => absurd z (by omega)) (fun j _ hj => h1 j hj) (fun c b2 b3 c1 c2 kb => ?_)
  have c0 : c / 4 = 0 := by omega
  refine br_t (nI_pos' (by omega)) (br_t (by decide) (sl_112 hh h16 (by omega) hs ht (by rw [c0]; exact pk_us) (h12 _ hs) (h15 _ hs) (h17 c (by omega)) hf2 (fun g2 b4 b8 b10 b16 b17 p1 p2 p3 => ?_)))
  rw [e1]
  refine H c g2 _ _ _ _ _ _ _ _ _ _ _ _ _ _ _ _ _ ⟨by omega, p1, pk_us, fun j g g' => ?_, fun j g g' => ?_, pk_us, pk_us, pk_us, pk_us, fun j g g' => ?_, pk_us, pk_us, pk_us, fun j g g' => ?_, fun j g g' => ?_⟩
  · rw [pk_un (by omega)]
    exact h1 j g'
  · rw [kb j g']
    exact h2 j g
  · rw [pk_un g']
    exact h12 j g
  · rw [pk_un g']
    exact h15 j g
  · rw [p3 j g']
    exact h17 j g
theorem sl_second {post : Int32 → St2 → Prop} {k h c s b : Nat} {x : Int32} (hk : k < 256) (hh : (nI k * 7) &&& 15 = nI h) (h16 : h < 16) (hs : s < 3) (hb : 1 ≤ b) (hb' : b ≤ 12) (hf1 : f1 = 1)
    (hO : sl_One k h c s f2 a1 a2 a5 a9 a11 a12 a13 a14 a15 a17)
    (H : ∀ (c : Nat) (b1 b2 b3 b4 b5 b6 b7 : Nat → Int32) (b8 : Nat → Int64) (b9 b10 b11 b12 b13 b14 b15 b16 b17 : Nat → Int32), sl_Fin k h c s (sl_srt b) x b1 b5 b6 b7 b9 b11 b12 b13 b14 b15 →
      post 2 (f0, 2, 0, b1, b2, b3, b4, b5, b6, b7, b8, b9, b10, b11, b12, b13, b14, b15, b16, b17)) :
    wpX_store post (f0, f1, f2, a1, a2, a3, a4, a5, a6, a7, a8, a9, a10, a11, a12, a13, a14, a15, a16, a17) (nI k) (nI b) x 0 := by
  have hu := sl_srt3 b
  have e1 : f1 + 1 = 2 := by rw [hf1]; decide
  obtain ⟨hc, hP, h1, h1', h2, h5, h9, h11, h12, h12', h13, h14, h15, h15', h17⟩ := hO
  have c0 : c / 4 = 0 := by omega
  have h1c : a1 (c / 4) = nI s := by rw [c0]; exact h1
  have hsh : nI c >>> ((2 : Int32) &&& 31) = nI 0 := by rw [sl_sh c (by omega), c0]
  have hin : vp_in (nI c >>> ((2 : Int32) &&& 31)) 8 := by rw [hsh]; exact vp_in_nI (by decide) (by decide)
  have hat : a1 (nI c >>> ((2 : Int32) &&& 31)).toNatClampNeg = nI s := by rw [hsh, nI_clamp (by decide)]; exact h1
  refine sl_top (t := 0) hk hb hb' (by omega) ?_
  unfold wX_store_57
  refine (sl_find_hit hk hh h16 (by omega) h9 h5 (br_f (nI_pos (by omega)) ⟨hin, ?_⟩))
  by_cases e : s = sl_srt b
  · refine br_t (by rw [hat, e]) (sl_125 (t := 0) (by omega) hs (by omega) h1c h11 h12 h13 h14 hP (fun g2 b8 b16 b17 p1 p2 p3 => ?_))
    rw [e1, p2 rfl]
    have n1 := fun z => sl_cnt8 z h1 (h1' 1 (by omega) (by omega)) (fun j g g' => h1' j (by omega) g')
    refine H c _ _ _ _ _ _ _ _ _ _ _ _ _ _ _ _ _ ⟨by omega, ?_, h5, pk_us, pk_us, h9, ?_, ?_, h13, h14, ?_, fun _ => ?_, fun w => absurd e w, ?_, ?_⟩
    · rw [← e]; exact h1c
    · rw [← e]; exact h11
    · rw [← e]; exact h12
    · rw [← e]; exact h15
    · rw [n1, sl_bit_0 (sl_nm hs), sl_bit_1]
    · rw [n1, sl_bit_0 (sl_mn hs), sl_bit_1]
    · rw [← e, n1, sl_bit_0 (sl_mn hs), sl_bit_1]
  · refine br_f (by rw [hat]; exact sl_nn hs hu e) ?_
    unfold wX_store_85
    refine sl_makeRoom (p := 1) hu (by omega) (h2 _ hu (fun w => e w.symm)) (fun j z => ?_) (fun j g g' => h1' j g g') (fun d b2 b3 d1 d2 kb => ?_)
    · rw [show j = 0 by omega, h1]
      exact nI_pos' (by omega)
    have d0 : d / 4 = 1 := by omega
    refine br_t (nI_pos' (by omega)) (br_f (nI_pos (by omega)) (sl_giveUp hh h16 (by omega) hs (by rw [c0, pk_un (by omega)]; exact h1) h5 h9 h13 h14 hP (fun b2 b3 b4 b17 k17 => ?_)))
    refine sl_112 (t := 0) hh h16 (by omega) hu (by omega) (by rw [d0]; exact pk_us) (by rw [pk_un (fun w => e w.symm)]; exact h12' _ hu (fun w => e w.symm)) (by rw [pk_un (fun w => e w.symm)]; exact h15' _ hu (fun w => e w.symm)) (by rw [k17 d (by omega)]; exact h17 d (by omega) (by omega)) rfl (fun g2 b4 b8 b10 b16 b17 p1 p2 p3 => ?_)
    rw [e1, p2 rfl]
    have n1 := fun z => sl_cnt8 (a := upd a1 1 (nI (sl_srt b))) (v := nI s) (w := nI (sl_srt b)) z (by rw [pk_un (by omega)]; exact h1) pk_us (fun j g g' => by rw [pk_un (by omega)]; exact h1' j (by omega) g')
    refine H d _ _ _ _ _ _ _ _ _ _ _ _ _ _ _ _ _ ⟨by omega, by rw [d0]; exact pk_us, pk_us, pk_us, pk_us, pk_us, pk_us, pk_us, pk_us, pk_us, pk_us, fun w => absurd w e, fun _ => ⟨?_, ?_⟩, ?_, ?_⟩
    · rw [pk_un e, pk_us, h15]
      decide
    · rw [n1, sl_bit_0 (sl_nm hs), sl_bit_0 (sl_nm hu), sl_bit_1]
    · rw [n1, sl_bit_0 (sl_mn hs), sl_bit_0 (sl_nn hu hs (fun w => e w.symm)), sl_bit_1]
    · rw [n1, sl_bit_0 (sl_mn hu), sl_bit_0 (sl_nn hs hu e), sl_bit_1]
end
end
section
section
variable {f0 : Int64} {f1 f2 : Int32} {a1 a2 a3 a4 a5 a6 a7 : Nat → Int32} {a8 : Nat → Int64} {a9 a10 a11 a12 a13 a14 a15 a16 a17 : Nat → Int32}
/-! ===== the constructor ===== -/
theorem sl_fill {s : Nat → Int32} {i k : Nat} (hk : k = i) (h : ∀ j, j < i → s j = -1) : ∀ j, j < i + 1 → upd s k (-1) j = -1 := by
  intro j hj
  rw [hk]
  by_cases e : j = i
  · rw [e, pk_us]
  · rw [pk_un e]
    exact h j (by omega)
theorem sl_i214 {post : St2 → Prop} {mc ms kc ks : Nat}
    (H : ∀ b17 : Nat → Int32, (∀ j, j < 32 → b17 j = -1) → post (f0, f1, f2, a1, a2, a3, a4, a5, a6, a7, a8, a9, a10, a11, a12, a13, a14, a15, a16, b17)) :
    ∃ n, wX_init_214 post mc ms kc ks f0 f1 f2 n 0 a1 a2 a3 a4 a5 a6 a7 a8 a9 a10 a11 a12 a13 a14 a15 a16 a17 :=
  pk_loop (fun n i s => wX_init_214 post mc ms kc ks f0 f1 f2 n (nI i) a1 a2 a3 a4 a5 a6 a7 a8 a9 a10 a11 a12 a13 a14 a15 a16 s) (fun i s => ∀ j, j < i → s j = -1) 32 0 a17 (by omega) (fun j hj => absurd hj (by omega))
    (fun n s h => br_t (by decide) (H s h))
    (fun n i s hi h hw => br_f (nI_ge (b := 32) hi (by decide)) ⟨vp_in_nI hi (by decide), nm_e (nm_r (nI_1 i) (hw _ (sl_fill (nI_clamp (by omega)) h)))⟩)
theorem sl_i193 {post : St2 → Prop} {mc ms kc ks : Nat}
    (H : ∀ b9 b17 : Nat → Int32, (∀ j, j < 16 → b9 j = -1) → (∀ j, j < 32 → b17 j = -1) → post (f0, f1, f2, a1, a2, a3, a4, a5, a6, a7, a8, b9, a10, a11, a12, a13, a14, a15, a16, b17)) :
    ∃ n, wX_init_193 post mc ms kc ks f0 f1 f2 n 0 a1 a2 a3 a4 a5 a6 a7 a8 a9 a10 a11 a12 a13 a14 a15 a16 a17 :=
  pk_loop (fun n i s => wX_init_193 post mc ms kc ks f0 f1 f2 n (nI i) a1 a2 a3 a4 a5 a6 a7 a8 s a10 a11 a12 a13 a14 a15 a16 a17) (fun i s => ∀ j, j < i → s j = -1) 16 0 a9 (by omega) (fun j hj => absurd hj (by omega))
    (fun n s h => br_t (by decide) (sl_i214 (fun b17 h17 => H s b17 h h17)))
    (fun n i s hi h hw => br_f (nI_ge (b := 16) hi (by decide)) ⟨vp_in_nI hi (by decide), nm_e (nm_r (nI_1 i) (hw _ (sl_fill (nI_clamp (by omega)) h)))⟩)
theorem sl_i159 {post : St2 → Prop} {mc ms kc ks : Nat}
    (H : ∀ b2 b9 b11 b12 b17 : Nat → Int32, (∀ j, j < 3 → b2 j = -1) → (∀ j, j < 16 → b9 j = -1) → (∀ j, j < 3 → b11 j = -1) → (∀ j, j < 3 → b12 j = -1) → (∀ j, j < 32 → b17 j = -1) → post (f0, f1, f2, a1, b2, a3, a4, a5, a6, a7, a8, b9, a10, b11, b12, a13, a14, a15, a16, b17)) :
    ∃ n, wX_init_159 post mc ms kc ks f0 f1 f2 n 0 a1 a2 a3 a4 a5 a6 a7 a8 a9 a10 a11 a12 a13 a14 a15 a16 a17 :=
  pk_loop (σ := (Nat → Int32) × (Nat → Int32) × (Nat → Int32)) (fun n i s => wX_init_159 post mc ms kc ks f0 f1 f2 n (nI i) a1 s.1 a3 a4 a5 a6 a7 a8 a9 a10 s.2.1 s.2.2 a13 a14 a15 a16 a17) (fun i s => (∀ j, j < i → s.1 j = -1) ∧ (∀ j, j < i → s.2.1 j = -1) ∧ (∀ j, j < i → s.2.2 j = -1)) 3 0 (a2, a11, a12) (by omega) ⟨fun j hj => absurd hj (by omega), fun j hj => absurd hj (by omega), fun j hj => absurd hj (by omega)⟩
    (fun n s h => br_t (by decide) (sl_i193 (fun b9 b17 h9 h17 => H s.1 b9 s.2.1 s.2.2 b17 h.1 h9 h.2.1 h.2.2 h17)))
    (fun n i s hi h hw => br_f (nI_ge (b := 3) hi (by decide)) ⟨vp_in_nI hi (by decide), nm_e ⟨vp_in_nI hi (by decide), nm_e ⟨vp_in_nI hi (by decide), nm_e (nm_r (nI_1 i) (hw (_, _, _) ⟨sl_fill (nI_clamp (by omega)) h.1, sl_fill (nI_clamp (by omega)) h.2.1, sl_fill (nI_clamp (by omega)) h.2.2⟩))⟩⟩⟩)
theorem sl_i138 {post : St2 → Prop} {mc ms kc ks : Nat}
    (H : ∀ b1 b2 b9 b11 b12 b17 : Nat → Int32, (∀ j, j < 8 → b1 j = -1) → (∀ j, j < 3 → b2 j = -1) → (∀ j, j < 16 → b9 j = -1) → (∀ j, j < 3 → b11 j = -1) → (∀ j, j < 3 → b12 j = -1) → (∀ j, j < 32 → b17 j = -1) → post (f0, f1, f2, b1, b2, a3, a4, a5, a6, a7, a8, b9, a10, b11, b12, a13, a14, a15, a16, b17)) :
    ∃ n, wX_init_138 post mc ms kc ks f0 f1 f2 n 0 a1 a2 a3 a4 a5 a6 a7 a8 a9 a10 a11 a12 a13 a14 a15 a16 a17 :=
  pk_loop (fun n i s => wX_init_138 post mc ms kc ks f0 f1 f2 n (nI i) s a2 a3 a4 a5 a6 a7 a8 a9 a10 a11 a12 a13 a14 a15 a16 a17) (fun i s => ∀ j, j < i → s j = -1) 8 0 a1 (by omega) (fun j hj => absurd hj (by omega))
    (fun n s h => br_t (by decide) (sl_i159 (fun b2 b9 b11 b12 b17 h2 h9 h11 h12 h17 => H s b2 b9 b11 b12 b17 h h2 h9 h11 h12 h17)))
    (fun n i s hi h hw => br_f (nI_ge (b := 8) hi (by decide)) ⟨vp_in_nI hi (by decide), nm_e (nm_r (nI_1 i) (hw _ (sl_fill (nI_clamp (by omega)) h)))⟩)
theorem sl_init {post : St2 → Prop}
    (H : ∀ b1 b2 b9 b11 b12 b17 : Nat → Int32, (∀ j, j < 8 → b1 j = -1) → (∀ j, j < 3 → b2 j = -1) → (∀ j, j < 16 → b9 j = -1) → (∀ j, j < 3 → b11 j = -1) → (∀ j, j < 3 → b12 j = -1) → (∀ j, j < 32 → b17 j = -1) → post (0, 0, 0, b1, b2, fun _ => 0, fun _ => 0, fun _ => 0, fun _ => 0, fun _ => 0, fun _ => 0, b9, fun _ => 0, b11, b12, fun _ => 0, fun _ => 0, fun _ => 0, fun _ => 0, b17)) :
    wpX_init post 17 388 (0, 0, 0) := by
  refine ⟨by decide, by decide, by decide, by decide, by decide, by decide, by decide, by decide, by decide, by decide, by decide, by decide, by decide, by decide, by decide, by decide, by decide, by decide, by decide, by decide, by decide, by decide, by decide, by decide, by decide, by decide, by decide, by decide, by decide, by decide, by decide, by decide, by decide, by decide, ?_⟩
  exact sl_i138 H
/-! ===== the law ===== -/
section
variable {post : Int32 → St0 → Prop} {mc ms kc ks : Nat} {k h c s u : Nat} {x z0 z1 : Int32}
theorem sl_230 (hk : k < 256) (hh : (nI k * 7) &&& 15 = nI h) (h16 : h < 16) (hF : sl_Fin k h c s u x a1 a5 a6 a7 a9 a11 a12 a13 a14 a15) (hz : z1 = z0) (hp : post 1 ()) :
    wL_lawOf_230 post mc ms (nI k) z0 z1 kc ks f0 f1 0 a1 a2 a3 a4 a5 a6 a7 a8 a9 a10 a11 a12 a13 a14 a15 a16 a17 := by
  obtain ⟨hc, h1, h5, h6, h7, h9, h11, h12, h13, h14, h15, n7, n6, ns, nu⟩ := hF
  exact br_t hz (sl_tick rfl (fun g0 => br_t rfl (sl_number hk hh h16 hc h9 h5 (br_t h7 hp))))
theorem sl_172 (hk : k < 256) (hh : (nI k * 7) &&& 15 = nI h) (h16 : h < 16) (hs : s < 3) (hu : u < 3) (hF : sl_Fin k h c s u x a1 a5 a6 a7 a9 a11 a12 a13 a14 a15) (hz : z1 = z0) (hp : post 1 ()) :
    wL_lawOf_172 post mc ms (nI k) (nI s) (nI u) z0 z1 kc ks f0 f1 0 a1 a2 a3 a4 a5 a6 a7 a8 a9 a10 a11 a12 a13 a14 a15 a16 a17 := by
  have hF' := hF
  obtain ⟨hc, h1, h5, h6, h7, h9, h11, h12, h13, h14, h15, n7, n6, ns, nu⟩ := hF'
  have as : sl_ask s = nI s := if_neg (by omega)
  have au : sl_ask u = nI u := if_neg (by omega)
  refine br_t hz (sl_items hu (br_t h15 (sl_pages (by omega) (br_t (by rw [as, ns]; rfl) (sl_pages (by omega) (br_t (by rw [au, nu]; rfl) (sl_pages (q := 3) (by omega) ?_)))))))
  refine pk_eq s u (fun e => sl_230 hk hh h16 hF ?_ hp) (fun e => sl_230 hk hh h16 hF ?_ hp)
  · rw [show sl_ask 3 = -1 from rfl, n7 e]
    rfl
  · rw [show sl_ask 3 = -1 from rfl, (n6 e).2]
    rfl
theorem sl_94 {a b t : Nat} (hk : k < 256) (ha : 1 ≤ a) (ha' : a ≤ 12) (hb : 1 ≤ b) (hb' : b ≤ 12) (ht : t < 512) (hf1 : f1 = 0) (hf2 : f2 = 0) (es : sl_srt a = s) (eu : sl_srt b = u)
    (h1 : ∀ j, j < 8 → a1 j = -1) (h2 : ∀ j, j < 3 → a2 j = -1) (h9 : ∀ j, j < 16 → a9 j = -1) (h12 : ∀ j, j < 3 → a12 j = -1) (h15 : ∀ j, j < 3 → a15 j = 0) (h17 : ∀ j, j < 32 → a17 j = -1) (hp : post 1 ()) :
    wL_lawOf_94 post mc ms x (nI k) (nI a) (nI b) (nI t) (nI s) (nI u) kc ks f0 f1 f2 a1 a2 a3 a4 a5 a6 a7 a8 a9 a10 a11 a12 a13 a14 a15 a16 a17 := by
  have hs := sl_srt3 a
  have hu := sl_srt3 b
  rw [es] at hs
  rw [eu] at hu
  obtain ⟨h, h16, hh⟩ := sl_hash k
  unfold wL_lawOf_94
  refine sl_first hk hh h16 ha ha' ht hf1 hf2 h1 h2 h9 h12 h15 h17 (fun c g2 b1 b2 b3 b4 b5 b6 b7 b8 b9 b10 b11 b12 b13 b14 b15 b16 b17 hO => ?_)
  rw [es] at hO
  refine sl_second hk hh h16 hs hb hb' rfl hO (fun d b1 b2 b3 b4 b5 b6 b7 b8 b9 b10 b11 b12 b13 b14 b15 b16 b17 hF => ?_)
  rw [eu] at hF
  have hF' := hF
  obtain ⟨kc, k1, k5, k6, k7, k9, k11, k12, k13, k14, k15, n7, n6, ns, nu⟩ := hF'
  refine br_t rfl (sl_get hk hh h16 kc hu k9 k5 k1 k11 k12 k13 k14 (br_t k6 (sl_swapNo hk hh h16 kc k9 k5 (by rw [k7]; decide) (br_t rfl (sl_items hs ?_)))))
  exact pk_eq s u (fun e => sl_172 hk hh h16 hs hu hF (by rw [e]; exact k15) hp) (fun e => sl_172 hk hh h16 hs hu hF (n6 e).1 hp)
theorem sl_70 {a b t : Nat} (hk : k < 256) (ha : 1 ≤ a) (ha' : a ≤ 12) (hb : 1 ≤ b) (hb' : b ≤ 12) (ht : t < 512) (hf1 : f1 = 0) (hf2 : f2 = 0) (es : sl_srt a = s)
    (h1 : ∀ j, j < 8 → a1 j = -1) (h2 : ∀ j, j < 3 → a2 j = -1) (h9 : ∀ j, j < 16 → a9 j = -1) (h12 : ∀ j, j < 3 → a12 j = -1) (h15 : ∀ j, j < 3 → a15 j = 0) (h17 : ∀ j, j < 32 → a17 j = -1) (hp : post 1 ()) :
    wL_lawOf_70 post mc ms x (nI k) (nI a) (nI b) (nI t) (nI s) kc ks f0 f1 f2 a1 a2 a3 a4 a5 a6 a7 a8 a9 a10 a11 a12 a13 a14 a15 a16 a17 :=
  pk_lt 3 b (fun z => pk_lt 6 b (fun w => sl_94 (u := 2) hk ha ha' hb hb' ht hf1 hf2 es (sl_srt2 z w) h1 h2 h9 h12 h15 h17 hp) (fun w => sl_94 (u := 1) hk ha ha' hb hb' ht hf1 hf2 es (sl_srt1 z w) h1 h2 h9 h12 h15 h17 hp)) (fun z => sl_94 (u := 0) hk ha ha' hb hb' ht hf1 hf2 es (sl_srt0 z) h1 h2 h9 h12 h15 h17 hp)
end
end
theorem sl_len (p : Int32) : ∃ a : Nat, 1 ≤ a ∧ a ≤ 12 ∧ 1 + ((p &&& 255) - (p &&& 255) / 12 * 12) = nI a := by
  obtain ⟨j, hj, e⟩ := pk_andE p (m := 255) 8 (by decide)
  refine ⟨1 + j % 12, by omega, by omega, ?_⟩
  rw [e, show (12 : Int32) = nI 12 from rfl, pk_rem (by omega) (by decide) (by decide), show (1 : Int32) = nI 1 from rfl, nI_add]
theorem sl_lawOf {post : Int32 → St0 → Prop} (p0 p1 p2 p3 p4 : Int32) (hp : post 1 ()) : wpL_lawOf post 18 408 () p0 p1 p2 p3 p4 := by
  obtain ⟨k, hk, ek⟩ := pk_andE p0 (m := 255) 8 (by decide)
  obtain ⟨t, ht, et⟩ := pk_andE p4 (m := 511) 9 (by decide)
  obtain ⟨a, ha, ha', ea⟩ := sl_len p1
  obtain ⟨b, hb, hb', eb⟩ := sl_len p2
  refine ⟨by decide, by decide, 17, 388, by decide, by decide, sl_init (fun b1 b2 b9 b11 b12 b17 h1 h2 h9 h11 h12 h17 => ?_)⟩
  refine nm_r ek ⟨by decide, nm_r ea ⟨by decide, nm_r eb (nm_r et ?_)⟩⟩
  exact pk_lt 3 a (fun z => pk_lt 6 a (fun w => sl_70 (s := 2) hk ha ha' hb hb' ht rfl rfl (sl_srt2 z w) h1 h2 h9 h12 (fun _ _ => rfl) h17 hp) (fun w => sl_70 (s := 1) hk ha ha' hb hb' ht rfl rfl (sl_srt1 z w) h1 h2 h9 h12 (fun _ _ => rfl) h17 hp)) (fun z => sl_70 (s := 0) hk ha ha' hb hb' ht rfl rfl (sl_srt0 z) h1 h2 h9 h12 (fun _ _ => rfl) h17 hp)
theorem sl_cell {post : Int32 → Prop} {L : Nat} {xs : Nat → Int32} {p : Int32} (hL : L ≤ 5) (i : Nat) (hi : i < 5) (e : p = nI i) (hp : ∀ r, post r) : wpL_cellAt post L xs () p := by
  subst e
  exact pk_le L i (fun _ => hp 0) (fun z => ⟨vp_in_nI z (by omega), hp _⟩)
theorem i_vc (xs : Nat → Int32) (L : Nat) (hL : L ≤ 5) : wpL_law (fun r => r = 1) L xs :=
  sl_cell hL 0 (by decide) rfl (fun _ => sl_cell hL 1 (by decide) rfl (fun _ => sl_cell hL 2 (by decide) rfl (fun _ => sl_cell hL 3 (by decide) rfl (fun _ => sl_cell hL 4 (by decide) rfl (fun _ => ⟨18, 408, by decide, by decide, sl_lawOf _ _ _ _ _ rfl⟩)))))
end

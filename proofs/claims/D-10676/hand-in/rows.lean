section
/-! ===== CowMemory: small arithmetic ===== -/
theorem cw_5 (g : Nat) : (5 : Int32) * 0 + nI g = nI g := by
  rw [show (5 : Int32) * 0 = 0 from by decide, Int32.zero_add]
theorem cw_4 (g : Nat) : (4 : Int32) * 0 + nI g = nI g := by
  rw [show (4 : Int32) * 0 = 0 from by decide, Int32.zero_add]
theorem cw_shr {c : Nat} (h : c < 20) : nI c >>> ((2 : Int32) &&& 31) = nI (c / 4) := pk_shrN (by omega) _ 2 (by decide)
theorem cw_and {c : Nat} (h : c < 20) : nI c &&& 3 = nI (c % 4) := pk_andN (by omega) 2 (by decide)
theorem cw_z8 : (0 : Int32).toInt8.toInt32 = 0 := by decide
theorem cw_nb : vp_nar .boolean 1 = 1 := by rfl
theorem cw_d8 : ((1 : Int32) - 1).toInt8.toInt32 = 0 := by decide
theorem cw_put {a : Nat → Int32} {i k : Nat} {x : Int32} (hk : k = i) (h : ∀ j, j < i → a j = x) : ∀ j, j < i + 1 → upd a k x j = x := by
  intro j hj
  rw [hk]
  by_cases e : j = i
  · rw [e, pk_us]
  · rw [pk_un e]
    exact h j (by omega)
/-! ===== the methods, one lemma a road ===== -/
section
variable {fc hd : Int32} {a1 a2 a3 a4 a5 a6 a7 a8 a9 a10 a11 : Nat → Int32}
theorem cw_i153 {post : St2 → Prop} {mc ms kc ks : Nat} (H : ∀ b8 : Nat → Int32, (∀ j, j < 6 → b8 j = -1) → post (fc, hd, a1, a2, a3, a4, a5, a6, a7, b8, a9, a10, a11)) : ∃ n, wX_init_153 post mc ms kc ks fc hd n 0 a1 a2 a3 a4 a5 a6 a7 a8 a9 a10 a11 :=
  pk_loop (fun n i s => wX_init_153 post mc ms kc ks fc hd n (nI i) a1 a2 a3 a4 a5 a6 a7 s a9 a10 a11) (fun i s => ∀ j, j < i → s j = -1) 6 0 a8 (by omega) (fun j hj => absurd hj (by omega))
    (fun n s h => pk_le 6 6 (fun _ => H s h) (fun z => absurd z (by omega)))
    (fun n i s hi h hw => pk_le 6 i (fun z => absurd z (by omega)) (fun _ => ⟨pk_in i 6 hi, nm_e (nm_r (nI_1 i) (hw _ (cw_put (nI_clamp (by omega)) h)))⟩))
theorem cw_i125 {post : St2 → Prop} {mc ms kc ks : Nat} (H : ∀ b2 b5 b8 : Nat → Int32, (∀ j, j < 20 → b2 j = -1) → (∀ j, j < 20 → b5 j = -1) → (∀ j, j < 6 → b8 j = -1) → post (fc, hd, a1, b2, a3, a4, b5, a6, a7, b8, a9, a10, a11)) : ∃ n, wX_init_125 post mc ms kc ks fc hd n 0 a1 a2 a3 a4 a5 a6 a7 a8 a9 a10 a11 :=
  pk_loop (fun n i (s : (Nat → Int32) × (Nat → Int32)) => wX_init_125 post mc ms kc ks fc hd n (nI i) a1 s.1 a3 a4 s.2 a6 a7 a8 a9 a10 a11) (fun i s => (∀ j, j < i → s.1 j = -1) ∧ (∀ j, j < i → s.2 j = -1)) 20 0 (a2, a5) (by omega) ⟨fun j hj => absurd hj (by omega), fun j hj => absurd hj (by omega)⟩
    (fun n s h => pk_le 20 20 (fun _ => cw_i153 (fun a ha => H s.1 s.2 a h.1 h.2 ha)) (fun z => absurd z (by omega)))
    (fun n i s hi h hw => pk_le 20 i (fun z => absurd z (by omega)) (fun _ => ⟨pk_in i 20 hi, nm_e ⟨pk_in i 20 hi, nm_e (nm_r (nI_1 i) (hw (_, _) ⟨cw_put (nI_clamp (by omega)) h.1, cw_put (nI_clamp (by omega)) h.2⟩))⟩⟩))
theorem cw_init {post : St2 → Prop} {mc ms : Nat} {p0 : Int32} (hm : 11 ≤ mc) (hs : 226 ≤ ms) (H : ∀ (fc : Int32) (b2 b5 b8 : Nat → Int32), ¬ fc ≤ 0 → (∀ j, j < 20 → b2 j = -1) → (∀ j, j < 20 → b5 j = -1) → (∀ j, j < 6 → b8 j = -1) → post (fc, 0, upd (fun _ => 0) 0 1, b2, fun _ => 0, fun _ => 0, b5, fun _ => 0, fun _ => 0, b8, fun _ => 0, fun _ => 0, fun _ => 0)) : wpX_init post mc ms (0, 0) p0 := by
  have K : ∀ z : Int32, ¬ z ≤ 0 → wX_init_113 post mc ms z 11 226 0 0 (fun _ => 0) (fun _ => 0) (fun _ => 0) (fun _ => 0) (fun _ => 0) (fun _ => 0) (fun _ => 0) (fun _ => 0) (fun _ => 0) (fun _ => 0) (fun _ => 0) :=
    fun z hz => nm_e (cw_i125 (fun b2 b5 b8 h2 h5 h8 => H z b2 b5 b8 hz h2 h5 h8))
  unfold wpX_init
  refine ⟨by omega, by omega, by omega, by omega, by omega, by omega, by omega, by omega, by omega, by omega, by omega, by omega, by omega, by omega, by omega, by omega, by omega, by omega, by omega, by omega, by omega, by omega, ?_⟩
  exact br_c (fun h => br_c (fun _ => K p0 (fun h0 => absurd (Int32.le_trans h h0) (by decide))) (fun _ => K 6 (by decide))) (fun _ => K 2 (by decide))
/-! check, newContent, map -/
theorem cw_chk_bad {post : Int32 → Prop} {p g : Int32} (h : p < 0 ∨ 3 < p ∨ g < 0 ∨ 4 < g) (H : post (-1)) : wpX_check post (fc, hd, a1, a2, a3, a4, a5, a6, a7, a8, a9, a10, a11) p g :=
  br_c (fun _ => H) (fun h1 => br_c (fun _ => H) (fun h2 => br_c (fun _ => H) (fun h3 => br_f (fun h4 => by
    rcases h with h | h | h | h
    · exact h1 h
    · exact h2 h
    · exact h3 h
    · exact absurd h4 (Int32.not_le.mpr h)) H)))
theorem cw_chk_dead {post : Int32 → Prop} {p g : Nat} (hp : p < 4) (hg : g < 5) (ha : a1 p = 0) (H : post (-2)) : wpX_check post (fc, hd, a1, a2, a3, a4, a5, a6, a7, a8, a9, a10, a11) (nI p) (nI g) :=
  pk_lt p 0 (fun z => absurd z (by omega)) (fun _ => pk_lt 3 p (fun z => absurd z (by omega)) (fun _ => pk_lt g 0 (fun z => absurd z (by omega)) (fun _ => pk_le g 4 (fun _ => ⟨pk_in p 4 hp, br_t (by rw [nI_clamp (by omega)]; exact ha) H⟩) (fun z => absurd z (by omega)))))
theorem cw_chk_ok {post : Int32 → Prop} {g : Nat} (hg : g < 5) (ha : a1 0 = 1) (H : post 0) : wpX_check post (fc, hd, a1, a2, a3, a4, a5, a6, a7, a8, a9, a10, a11) 0 (nI g) :=
  br_f (by decide) (br_f (by decide) (pk_lt g 0 (fun z => absurd z (by omega)) (fun _ => pk_le g 4 (fun _ => ⟨pk_in 0 4 (by omega), br_f (by rw [sb_cl0, ha]; decide) H⟩) (fun z => absurd z (by omega)))))
theorem cw_new {post : Int32 → St2 → Prop} (h4 : a4 0 = 0) (H : post 0 (fc, hd, a1, a2, a3, upd a4 0 1, upd a5 0 (-1), upd a6 0 0, a7, a8, a9, a10, a11)) : wpX_newContent post (fc, hd, a1, a2, a3, a4, a5, a6, a7, a8, a9, a10, a11) :=
  ⟨1, br_f (by decide) ⟨pk_in 0 20 (by omega), br_t (by rw [sb_cl0]; exact h4) ⟨pk_in 0 20 (by omega), nm_r (by rw [sb_cl0]) ⟨pk_in 0 20 (by omega), nm_r (by rw [sb_cl0]) ⟨pk_in 0 20 (by omega), nm_r (by rw [sb_cl0]) H⟩⟩⟩⟩⟩
theorem cw_map_bad {post : Int32 → St2 → Prop} {p g b : Int32} (h : p < 0 ∨ 3 < p ∨ g < 0 ∨ 4 < g) (H : post (-1) (fc, hd, a1, a2, a3, a4, a5, a6, a7, a8, a9, a10, a11)) : wpX_map post (fc, hd, a1, a2, a3, a4, a5, a6, a7, a8, a9, a10, a11) p g b := by
  unfold wpX_map
  refine cw_chk_bad h ?_
  exact br_f (by decide) H
theorem cw_map_dead {post : Int32 → St2 → Prop} {p g : Nat} {b : Int32} (hp : p < 4) (hg : g < 5) (ha : a1 p = 0) (H : post (-2) (fc, hd, a1, a2, a3, a4, a5, a6, a7, a8, a9, a10, a11)) : wpX_map post (fc, hd, a1, a2, a3, a4, a5, a6, a7, a8, a9, a10, a11) (nI p) (nI g) b := by
  unfold wpX_map
  refine cw_chk_dead hp hg ha ?_
  exact br_f (by decide) H
theorem cw_map_new {post : Int32 → St2 → Prop} {g : Nat} (hg : g < 5) (ha : a1 0 = 1) (h2 : a2 g = -1) (h4 : a4 0 = 0) (H : post (nI g) (fc, hd, a1, upd a2 g 0, upd a3 g 1, upd a4 0 1, upd a5 0 (-1), upd a6 0 0, a7, a8, a9, a10, a11)) : wpX_map post (fc, hd, a1, a2, a3, a4, a5, a6, a7, a8, a9, a10, a11) 0 (nI g) 1 := by
  unfold wpX_map
  refine cw_chk_ok hg ha ?_
  refine br_t rfl (nm_r (cw_5 g) ⟨pk_in g 20 (by omega), br_t (by rw [nI_clamp (by omega), h2]; decide) ?_⟩)
  refine cw_new h4 ?_
  exact ⟨pk_in g 20 (by omega), nm_r (by rw [nI_clamp (by omega), cw_z8]) ⟨pk_in g 20 (by omega), nm_r (by rw [nI_clamp (by omega), cw_nb]) H⟩⟩
theorem cw_map_busy {post : Int32 → St2 → Prop} {g : Nat} {b : Int32} (hg : g < 5) (ha : a1 0 = 1) (h2 : a2 g = 0) (H : post (-4) (fc, hd, a1, a2, a3, a4, a5, a6, a7, a8, a9, a10, a11)) : wpX_map post (fc, hd, a1, a2, a3, a4, a5, a6, a7, a8, a9, a10, a11) 0 (nI g) b := by
  unfold wpX_map
  refine cw_chk_ok hg ha ?_
  exact br_t rfl (nm_r (cw_5 g) ⟨pk_in g 20 (by omega), br_f (by rw [nI_clamp (by omega), h2]; decide) H⟩)
/-! freeFrame, bringIn -/
theorem cw_free {post : Int32 → St2 → Prop} (hf : ¬ fc ≤ 0) (h8 : a8 0 = -1) (H : post 0 (fc, hd, a1, a2, a3, a4, a5, a6, a7, a8, a9, a10, a11)) : wpX_freeFrame post (fc, hd, a1, a2, a3, a4, a5, a6, a7, a8, a9, a10, a11) :=
  ⟨1, br_f hf ⟨pk_in 0 6 (by omega), br_f (by rw [sb_cl0, h8]; decide) H⟩⟩
theorem cw_b65 {post : Int32 → St2 → Prop} (h6 : a6 0 = 0) (H : ∀ b9 : Nat → Int32, (∀ j, j < 4 → b9 j = 0) → post 0 (fc, hd, a1, a2, a3, a4, a5, a6, a7, a8, b9, a10, a11)) : ∃ n, wX_bringIn_65 post 0 0 fc hd n 0 a1 a2 a3 a4 a5 a6 a7 a8 a9 a10 a11 :=
  pk_loop (fun n i s => wX_bringIn_65 post 0 0 fc hd n (nI i) a1 a2 a3 a4 a5 a6 a7 a8 s a10 a11) (fun i s => ∀ j, j < i → s j = 0) 4 0 a9 (by omega) (fun j hj => absurd hj (by omega))
    (fun n s h => pk_le 4 4 (fun _ => H s h) (fun z => absurd z (by omega)))
    (fun n i s hi h hw => pk_le 4 i (fun z => absurd z (by omega)) (fun _ => ⟨pk_in 0 20 (by omega), br_t (by rw [sb_cl0]; exact h6) ⟨pk_in i 24 (by omega) (cw_4 i), nm_e (nm_r (nI_1 i) (hw _ (cw_put (by rw [cw_4, nI_clamp (by omega)]) h)))⟩⟩))
theorem cw_bring_new {post : Int32 → St2 → Prop} (hf : ¬ fc ≤ 0) (h5 : a5 0 = -1) (h6 : a6 0 = 0) (h8 : a8 0 = -1) (H : ∀ b9 : Nat → Int32, (∀ j, j < 4 → b9 j = 0) → post 0 (fc, hd, a1, a2, a3, a4, upd a5 0 0, a6, a7, upd a8 0 0, b9, upd a10 0 1, upd a11 0 0)) : wpX_bringIn post (fc, hd, a1, a2, a3, a4, a5, a6, a7, a8, a9, a10, a11) 0 := by
  unfold wpX_bringIn
  refine ⟨pk_in 0 20 (by omega), br_t (by rw [sb_cl0, h5]; decide) ?_⟩
  refine cw_free hf h8 ?_
  exact ⟨pk_in 0 6 (by omega), nm_r (e' := upd a8 0 0) (by rw [sb_cl0, cw_z8]) ⟨pk_in 0 20 (by omega), nm_r (e' := upd a5 0 0) (by rw [sb_cl0, cw_z8]) ⟨pk_in 0 6 (by omega), nm_r (e' := upd a10 0 1) (by rw [sb_cl0]) ⟨pk_in 0 6 (by omega), nm_r (e' := upd a11 0 0) (by rw [sb_cl0]) (cw_b65 h6 H)⟩⟩⟩⟩
theorem cw_bring_old {post : Int32 → St2 → Prop} (h5 : a5 0 = 0) (H : post 0 (fc, hd, a1, a2, a3, a4, a5, a6, a7, a8, a9, upd a10 0 1, a11)) : wpX_bringIn post (fc, hd, a1, a2, a3, a4, a5, a6, a7, a8, a9, a10, a11) 0 := by
  unfold wpX_bringIn
  refine ⟨pk_in 0 20 (by omega), br_f (by rw [sb_cl0, h5]; decide) ⟨pk_in 0 20 (by omega), ?_⟩⟩
  rw [sb_cl0, h5, sb_cl0]
  exact ⟨pk_in 0 6 (by omega), nm_e ⟨pk_in 0 20 (by omega), H⟩⟩
/-! write -/
theorem cw_w_bad {post : Int32 → St2 → Prop} {p c v : Int32} (h : p < 0 ∨ 3 < p ∨ c < 0 ∨ 19 < c) (H : post (-1) (fc, hd, a1, a2, a3, a4, a5, a6, a7, a8, a9, a10, a11)) : wpX_write post (fc, hd, a1, a2, a3, a4, a5, a6, a7, a8, a9, a10, a11) p c v :=
  br_c (fun _ => H) (fun h1 => br_c (fun _ => H) (fun h2 => br_c (fun _ => H) (fun h3 => br_f (fun h4 => by
    rcases h with h | h | h | h
    · exact h1 h
    · exact h2 h
    · exact h3 h
    · exact absurd h4 (Int32.not_le.mpr h)) H)))
theorem cw_w_dead {post : Int32 → St2 → Prop} {p c : Nat} {v : Int32} (hp : p < 4) (hc : c < 20) (ha : a1 p = 0) (H : post (-2) (fc, hd, a1, a2, a3, a4, a5, a6, a7, a8, a9, a10, a11)) : wpX_write post (fc, hd, a1, a2, a3, a4, a5, a6, a7, a8, a9, a10, a11) (nI p) (nI c) v :=
  pk_lt p 0 (fun z => absurd z (by omega)) (fun _ => pk_lt 3 p (fun z => absurd z (by omega)) (fun _ => pk_lt c 0 (fun z => absurd z (by omega)) (fun _ => pk_le c 19 (fun _ => ⟨pk_in p 4 hp, br_t (by rw [nI_clamp (by omega)]; exact ha) H⟩) (fun z => absurd z (by omega)))))
theorem cw_w_unm {post : Int32 → St2 → Prop} {c : Nat} {v : Int32} (hc : c < 20) (ha : a1 0 = 1) (h2 : a2 (c / 4) = -1) (H : post (-3) (fc, hd, a1, a2, a3, a4, a5, a6, a7, a8, a9, a10, a11)) : wpX_write post (fc, hd, a1, a2, a3, a4, a5, a6, a7, a8, a9, a10, a11) 0 (nI c) v :=
  br_f (by decide) (br_f (by decide) (pk_lt c 0 (fun z => absurd z (by omega)) (fun _ => pk_le c 19 (fun _ => ⟨pk_in 0 4 (by omega), br_f (by rw [sb_cl0, ha]; decide) (nm_r (by rw [cw_shr hc, cw_5]) ⟨pk_in (c / 4) 20 (by omega), br_f (by rw [nI_clamp (by omega), h2]; decide) H⟩)⟩) (fun z => absurd z (by omega)))))
theorem cw_w87 {post : Int32 → St2 → Prop} {c e : Nat} {v : Int32} (hc : c < 20) (he : e < 20) (h2 : a2 e = 0) (hf : ¬ fc ≤ 0) (h5 : a5 0 = -1) (h6 : a6 0 = 0) (h8 : a8 0 = -1) (H : ∀ b9 : Nat → Int32, (∀ j, j < 4 → b9 j = 0) → post (nI c) (fc, hd, a1, a2, a3, a4, upd a5 0 0, a6, a7, upd a8 0 0, upd b9 (c % 4) v, upd a10 0 1, upd (upd a11 0 0) 0 1)) : wX_write_87 post (nI c) v (nI e) fc hd a1 a2 a3 a4 a5 a6 a7 a8 a9 a10 a11 := by
  unfold wX_write_87
  refine ⟨pk_in e 20 he, ?_⟩
  rw [nI_clamp (show e < 2 ^ 31 by omega), h2]
  refine cw_bring_new hf h5 h6 h8 (fun b9 h9 => ?_)
  have E : (4 : Int32) * 0 + (nI c &&& 3) = nI (c % 4) := by rw [cw_and hc, cw_4]
  exact ⟨pk_in (c % 4) 24 (by omega) E, nm_r (by rw [E, nI_clamp (by omega)]) ⟨pk_in 0 6 (by omega), nm_r (by rw [sb_cl0]) (H b9 h9)⟩⟩
theorem cw_w_hit {post : Int32 → St2 → Prop} {c : Nat} {v : Int32} (hc : c < 20) (ha : a1 0 = 1) (h2 : a2 (c / 4) = 0) (h3 : a3 (c / 4) = 1) (hf : ¬ fc ≤ 0) (h5 : a5 0 = -1) (h6 : a6 0 = 0) (h8 : a8 0 = -1) (H : ∀ b9 : Nat → Int32, (∀ j, j < 4 → b9 j = 0) → post (nI c) (fc, hd, a1, a2, a3, a4, upd a5 0 0, a6, a7, upd a8 0 0, upd b9 (c % 4) v, upd a10 0 1, upd (upd a11 0 0) 0 1)) : wpX_write post (fc, hd, a1, a2, a3, a4, a5, a6, a7, a8, a9, a10, a11) 0 (nI c) v :=
  br_f (by decide) (br_f (by decide) (pk_lt c 0 (fun z => absurd z (by omega)) (fun _ => pk_le c 19 (fun _ => ⟨pk_in 0 4 (by omega), br_f (by rw [sb_cl0, ha]; decide) (nm_r (by rw [cw_shr hc, cw_5]) ⟨pk_in (c / 4) 20 (by omega), br_t (by rw [nI_clamp (by omega), h2]; decide) ⟨pk_in (c / 4) 20 (by omega), br_f (by rw [nI_clamp (by omega), h3]; decide) (cw_w87 hc (by omega) h2 hf h5 h6 h8 H)⟩⟩)⟩) (fun z => absurd z (by omega)))))
/-! read -/
theorem cw_r_bad {post : Int32 → St2 → Prop} {p c : Int32} (h : p < 0 ∨ 3 < p ∨ c < 0 ∨ 19 < c) (H : post 0 (fc, hd, a1, a2, a3, a4, a5, a6, a7, a8, a9, a10, a11)) : wpX_read post (fc, hd, a1, a2, a3, a4, a5, a6, a7, a8, a9, a10, a11) p c :=
  br_c (fun _ => H) (fun h1 => br_c (fun _ => H) (fun h2 => br_c (fun _ => H) (fun h3 => br_t (by
    rcases h with h | h | h | h
    · exact absurd h h1
    · exact absurd h h2
    · exact absurd h h3
    · exact h) H)))
theorem cw_r_dead {post : Int32 → St2 → Prop} {p c : Nat} (hp : p < 4) (hc : c < 20) (ha : a1 p = 0) (H : post 0 (fc, hd, a1, a2, a3, a4, a5, a6, a7, a8, a9, a10, a11)) : wpX_read post (fc, hd, a1, a2, a3, a4, a5, a6, a7, a8, a9, a10, a11) (nI p) (nI c) :=
  pk_lt p 0 (fun z => absurd z (by omega)) (fun _ => pk_lt 3 p (fun z => absurd z (by omega)) (fun _ => pk_lt c 0 (fun z => absurd z (by omega)) (fun _ => pk_lt 19 c (fun z => absurd z (by omega)) (fun _ => ⟨pk_in p 4 hp, br_t (by rw [nI_clamp (by omega)]; exact ha) H⟩))))
theorem cw_r_unm {post : Int32 → St2 → Prop} {c : Nat} (hc : c < 20) (ha : a1 0 = 1) (h2 : a2 (c / 4) = -1) (H : post 0 (fc, hd, a1, a2, a3, a4, a5, a6, a7, a8, a9, a10, a11)) : wpX_read post (fc, hd, a1, a2, a3, a4, a5, a6, a7, a8, a9, a10, a11) 0 (nI c) :=
  br_f (by decide) (br_f (by decide) (pk_lt c 0 (fun z => absurd z (by omega)) (fun _ => pk_lt 19 c (fun z => absurd z (by omega)) (fun _ => ⟨pk_in 0 4 (by omega), br_f (by rw [sb_cl0, ha]; decide) (nm_r (by rw [cw_shr hc, cw_5]) ⟨pk_in (c / 4) 20 (by omega), br_f (by rw [nI_clamp (by omega), h2]; decide) H⟩)⟩))))
theorem cw_r_hit {post : Int32 → St2 → Prop} {c : Nat} (hc : c < 20) (ha : a1 0 = 1) (h2 : a2 (c / 4) = 0) (h5 : a5 0 = 0) (H : post (a9 (c % 4)) (fc, hd, a1, a2, a3, a4, a5, a6, a7, a8, a9, upd a10 0 1, a11)) : wpX_read post (fc, hd, a1, a2, a3, a4, a5, a6, a7, a8, a9, a10, a11) 0 (nI c) := by
  have E : (4 : Int32) * 0 + (nI c &&& 3) = nI (c % 4) := by rw [cw_and hc, cw_4]
  unfold wpX_read
  refine br_f (by decide) (br_f (by decide) (pk_lt c 0 (fun z => absurd z (by omega)) (fun _ => pk_lt 19 c (fun z => absurd z (by omega)) (fun _ => ⟨pk_in 0 4 (by omega), br_f (by rw [sb_cl0, ha]; decide) (nm_r (by rw [cw_shr hc, cw_5]) ⟨pk_in (c / 4) 20 (by omega), br_t (by rw [nI_clamp (by omega), h2]; decide) ⟨pk_in (c / 4) 20 (by omega), ?_⟩⟩)⟩))))
  rw [nI_clamp (show c / 4 < 2 ^ 31 by omega), h2]
  refine cw_bring_old h5 ?_
  refine ⟨pk_in (c % 4) 24 (by omega) E, ?_⟩
  rw [E, nI_clamp (show c % 4 < 2 ^ 31 by omega)]
  exact H
/-! sumOf, total -/
theorem cw_s_0 {post : Int64 → Prop} (h5 : a5 0 = -1) (h6 : a6 0 = 0) (H : post 0) : wpX_sumOf post (fc, hd, a1, a2, a3, a4, a5, a6, a7, a8, a9, a10, a11) 0 :=
  pk_loop (σ := Unit) (fun n i _ => wX_sumOf_5 post 0 fc hd a1 a2 a3 a4 a5 a6 a7 a8 a9 a10 a11 n 0 (nI i)) (fun _ _ => True) 4 0 () (by omega) trivial
    (fun n _ _ => pk_le 4 4 (fun _ => H) (fun z => absurd z (by omega)))
    (fun n i _ hi _ hw => pk_le 4 i (fun z => absurd z (by omega)) (fun _ => ⟨pk_in 0 20 (by omega), br_t (by rw [sb_cl0, h5]; decide) ⟨pk_in 0 20 (by omega), br_t (by rw [sb_cl0]; exact h6) (nm_r (nI_1 i) (hw () trivial))⟩⟩))
theorem cw_s_1 {post : Int64 → Prop} {j : Nat} {v : Int32} (hj : j < 4) (h5 : a5 0 = 0) (h9 : a9 j = v) (h9' : ∀ i, i < 4 → i ≠ j → a9 i = 0) (H : post v.toInt64) : wpX_sumOf post (fc, hd, a1, a2, a3, a4, a5, a6, a7, a8, a9, a10, a11) 0 := by
  refine pk_loop (fun n i s => wX_sumOf_5 post 0 fc hd a1 a2 a3 a4 a5 a6 a7 a8 a9 a10 a11 n s (nI i)) (fun i s => s = if j < i then v.toInt64 else 0) 4 0 (0 : Int64) (by omega) (by rw [if_neg (by omega)]) ?_ ?_
  · intro n s h
    rw [if_pos hj] at h
    subst h
    exact pk_le 4 4 (fun _ => H) (fun z => absurd z (by omega))
  · intro n i s hi h hw
    have E : (4 : Int32) * a5 (0 : Int32).toNatClampNeg + nI i = nI i := by rw [sb_cl0, h5, cw_4]
    have hw' := hw (s + (a9 i).toInt64) (by
      rw [h]
      by_cases e : i = j
      · rw [e, h9, if_neg (by omega), if_pos (by omega), Int64.zero_add]
      · rw [h9' i hi e]
        by_cases e' : j < i
        · rw [if_pos e', if_pos (by omega), show (0 : Int32).toInt64 = 0 from by decide, Int64.add_zero]
        · rw [if_neg e', if_neg (by omega), show (0 : Int32).toInt64 = 0 from by decide, Int64.add_zero])
    refine pk_le 4 i (fun z => absurd z (by omega)) (fun _ => ⟨pk_in 0 20 (by omega), br_f (by rw [sb_cl0, h5]; decide) ⟨pk_in 0 20 (by omega), pk_in i 24 (by omega) E, nm_r (by rw [E, nI_clamp (by omega)]) (nm_r (nI_1 i) hw')⟩⟩)
theorem cw_t_skip {post : Int64 → Prop} {x1 : Int64} {x3 : Int32} (H : post x1) : ∀ n i, i ≤ 20 → 20 - i < n → (∀ j, i ≤ j → j < 20 → a2 j = -1) → wX_total_7 post fc hd a1 a2 a3 a4 a5 a6 a7 a8 a9 a10 a11 n x1 x3 (nI i)
  | 0, i, _, h, _ => absurd h (by omega)
  | n + 1, i, hi, hn, h2 => pk_le 20 i (fun _ => H) (fun z => ⟨pk_in i 20 z, br_f (by rw [nI_clamp (by omega), h2 i (by omega) z]; decide) (nm_r (nI_1 i) (cw_t_skip H n (i + 1) (by omega) (by omega) (fun j hj hj' => h2 j (by omega) hj')))⟩)
theorem cw_t_0 {post : Int64 → Prop} (h2 : ∀ j, j < 20 → a2 j = -1) (H : post 0) : wpX_total post (fc, hd, a1, a2, a3, a4, a5, a6, a7, a8, a9, a10, a11) :=
  ⟨21, cw_t_skip H 21 0 (by omega) (by omega) (fun j _ hj => h2 j hj)⟩
theorem cw_t_run {post : Int64 → Prop} {g : Nat} {s : Int64} (hg : g < 20) (h2 : a2 g = 0) (h2' : ∀ j, j < 20 → j ≠ g → a2 j = -1) (h3 : a3 g = 1) (hs : ∀ q : Int64 → Prop, q s → wpX_sumOf q (fc, hd, a1, a2, a3, a4, a5, a6, a7, a8, a9, a10, a11) 0) (H : post s) : ∀ n i, i ≤ g → 20 - i < n → wX_total_7 post fc hd a1 a2 a3 a4 a5 a6 a7 a8 a9 a10 a11 n 0 0 (nI i)
  | 0, i, _, h => absurd h (by omega)
  | n + 1, i, hi, hn => pk_le 20 i (fun z => absurd z (by omega)) (fun z => ⟨pk_in i 20 z, by
      by_cases e : i = g
      · subst e
        refine br_t (by rw [nI_clamp (by omega), h2]; decide) ⟨pk_in i 20 z, nm_r (e' := 0) (by rw [nI_clamp (by omega), h2]) ⟨pk_in i 20 z, br_f (by rw [nI_clamp (by omega), h3]; decide) (br_t (by decide) ?_)⟩⟩
        unfold wX_total_59 wX_total_60
        refine nm_e (br_t rfl (hs _ ?_))
        exact nm_r (e' := s) (Int64.zero_add s) (nm_r (nI_1 i) (cw_t_skip H n (i + 1) (by omega) (by omega) (fun j hj hj' => h2' j hj' (by omega))))
      · exact br_f (by rw [nI_clamp (by omega), h2' i z e]; decide) (nm_r (nI_1 i) (cw_t_run hg h2 h2' h3 hs H n (i + 1) (by omega) (by omega)))⟩)
theorem cw_t_1 {post : Int64 → Prop} {g : Nat} {s : Int64} (hg : g < 20) (h2 : a2 g = 0) (h2' : ∀ j, j < 20 → j ≠ g → a2 j = -1) (h3 : a3 g = 1) (hs : ∀ q : Int64 → Prop, q s → wpX_sumOf q (fc, hd, a1, a2, a3, a4, a5, a6, a7, a8, a9, a10, a11) 0) (H : post s) : wpX_total post (fc, hd, a1, a2, a3, a4, a5, a6, a7, a8, a9, a10, a11) :=
  ⟨21, cw_t_run hg h2 h2' h3 hs H 21 0 (by omega) (by omega)⟩
/-! release, exit -/
theorem cw_rel {post : St2 → Prop} {g : Nat} (hg : g < 20) (h2 : a2 g = 0) (h4 : a4 0 = 1) (h5 : a5 0 = 0 ∨ a5 0 = -1) (H : ∀ b5 b8 : Nat → Int32, post (fc, hd, a1, upd a2 g (-1), a3, upd a4 0 0, b5, a6, a7, b8, a9, a10, a11)) : wpX_release post (fc, hd, a1, a2, a3, a4, a5, a6, a7, a8, a9, a10, a11) (nI g) := by
  unfold wpX_release
  refine ⟨pk_in g 20 hg, nm_r (e' := 0) (by rw [nI_clamp (by omega), h2]) ⟨pk_in g 20 hg, nm_r (e' := upd a2 g (-1)) (by rw [nI_clamp (by omega)]) ⟨pk_in 0 20 (by omega), pk_in 0 20 (by omega), nm_r (e' := upd a4 0 0) (by rw [sb_cl0, h4, cw_d8]) ⟨pk_in 0 20 (by omega), br_f (by rw [sb_cl0, pk_us]; decide) ⟨pk_in 0 20 (by omega), ?_⟩⟩⟩⟩⟩
  rcases h5 with h5 | h5
  · exact br_t (by rw [sb_cl0, h5]; decide) ⟨pk_in 0 20 (by omega), pk_in 0 6 (by omega) (by rw [sb_cl0, h5]; rfl), nm_e ⟨pk_in 0 20 (by omega), nm_e (H _ _)⟩⟩
  · exact br_f (by rw [sb_cl0, h5]; decide) (H _ _)
theorem cw_e_bad {post : Int32 → St2 → Prop} {p : Int32} (h : p < 0 ∨ 3 < p) (H : post (-1) (fc, hd, a1, a2, a3, a4, a5, a6, a7, a8, a9, a10, a11)) : wpX_exit post (fc, hd, a1, a2, a3, a4, a5, a6, a7, a8, a9, a10, a11) p :=
  br_c (fun _ => H) (fun h1 => br_f (fun h4 => by
    rcases h with h | h
    · exact h1 h
    · exact absurd h4 (Int32.not_le.mpr h)) H)
theorem cw_e_dead {post : Int32 → St2 → Prop} {p : Nat} (hp : p < 4) (ha : a1 p = 0) (H : post (-2) (fc, hd, a1, a2, a3, a4, a5, a6, a7, a8, a9, a10, a11)) : wpX_exit post (fc, hd, a1, a2, a3, a4, a5, a6, a7, a8, a9, a10, a11) (nI p) :=
  pk_lt p 0 (fun z => absurd z (by omega)) (fun _ => pk_le p 3 (fun _ => ⟨pk_in p 4 hp, br_t (by rw [nI_clamp (by omega)]; exact ha) H⟩) (fun z => absurd z (by omega)))
end
theorem cw_e_skip {post : Int32 → St2 → Prop} {x2 fc hd : Int32} {a1 a2 a3 a4 a5 a6 a7 a8 a9 a10 a11 : Nat → Int32} (H : post x2 (fc, hd, a1, a2, a3, a4, a5, a6, a7, a8, a9, a10, a11)) : ∀ n i, i ≤ 5 → 5 - i < n → (∀ j, i ≤ j → j < 5 → a2 j = -1) → wX_exit_36 post 0 n x2 (nI i) fc hd a1 a2 a3 a4 a5 a6 a7 a8 a9 a10 a11
  | 0, i, _, h, _ => absurd h (by omega)
  | n + 1, i, hi, hn, h2 => pk_le 5 i (fun _ => H) (fun z => ⟨pk_in i 20 (by omega), br_f (by rw [nI_clamp (by omega), h2 i (by omega) z]; decide) (nm_r (nI_1 i) (cw_e_skip H n (i + 1) (by omega) (by omega) (fun j hj hj' => h2 j (by omega) hj')))⟩) (by decide)
section
variable {fc hd : Int32} {a1 a2 a3 a4 a5 a6 a7 a8 a9 a10 a11 : Nat → Int32}
theorem cw_e_run {post : Int32 → St2 → Prop} {g : Nat} (hg : g < 5) (h2 : a2 g = 0) (h2' : ∀ j, j < 20 → j ≠ g → a2 j = -1) (h4 : a4 0 = 1) (h5 : a5 0 = 0 ∨ a5 0 = -1) (H : ∀ u, post 1 u) : ∀ n i, i ≤ g → 5 - i < n → wX_exit_36 post 0 n 0 (nI i) fc hd a1 a2 a3 a4 a5 a6 a7 a8 a9 a10 a11
  | 0, i, _, h => absurd h (by omega)
  | n + 1, i, hi, hn => pk_le 5 i (fun z => absurd z (by omega)) (fun z => ⟨pk_in i 20 (by omega), by
      by_cases e : i = g
      · subst e
        refine br_t (by rw [nI_clamp (by omega), h2]; decide) (cw_rel (by omega) h2 h4 h5 (fun b5 b8 => ?_))
        exact nm_r (e' := 1) (by decide) (nm_r (nI_1 i) (cw_e_skip (H _) n (i + 1) (by omega) (by omega) (fun j hj hj' => by rw [pk_un (by omega)]; exact h2' j (by omega) (by omega))))
      · exact br_f (by rw [nI_clamp (by omega), h2' i (by omega) e]; decide) (nm_r (nI_1 i) (cw_e_run hg h2 h2' h4 h5 H n (i + 1) (by omega) (by omega)))⟩) (by decide)
theorem cw_e_0 {post : Int32 → St2 → Prop} (ha : a1 0 = 1) (h2 : ∀ j, j < 20 → a2 j = -1) (H : ∀ u, post 0 u) : wpX_exit post (fc, hd, a1, a2, a3, a4, a5, a6, a7, a8, a9, a10, a11) 0 :=
  br_f (by decide) (br_t (by decide) ⟨pk_in 0 4 (by omega), br_f (by rw [sb_cl0, ha]; decide) ⟨pk_in 0 4 (by omega), nm_e (nm_r (e' := nI 0) (by decide) ⟨6, cw_e_skip (H _) 6 0 (by omega) (by omega) (fun j _ hj => h2 j (by omega))⟩)⟩⟩)
theorem cw_e_1 {post : Int32 → St2 → Prop} {g : Nat} (hg : g < 5) (ha : a1 0 = 1) (h2 : a2 g = 0) (h2' : ∀ j, j < 20 → j ≠ g → a2 j = -1) (h4 : a4 0 = 1) (h5 : a5 0 = 0 ∨ a5 0 = -1) (H : ∀ u, post 1 u) : wpX_exit post (fc, hd, a1, a2, a3, a4, a5, a6, a7, a8, a9, a10, a11) 0 :=
  br_f (by decide) (br_t (by decide) ⟨pk_in 0 4 (by omega), br_f (by rw [sb_cl0, ha]; decide) ⟨pk_in 0 4 (by omega), nm_e (nm_r (e' := nI 0) (by decide) ⟨6, cw_e_run hg h2 h2' h4 h5 H 6 0 (by omega) (by omega)⟩)⟩⟩)
end
end
section
/-! ===== the law's roads ===== -/
theorem cw_a1 : upd (fun _ => (0 : Int32)) 0 1 0 = 1 := pk_us
theorem cw_a1' {p : Nat} (h : 0 < p) : upd (fun _ => (0 : Int32)) 0 1 p = 0 := by
  rw [pk_un (by omega)]
theorem cw_up {x M : Int32} {n : Nat} (hM : M.toInt = n) (h : ¬ x < 0) (h5 : ¬ M < x) : ∃ j : Nat, j ≤ n ∧ x = nI j := nI_of2 hM h (Int32.not_lt.mp h5)
section
variable {post : Int32 → St0 → Prop} {mc ms kc ks : Nat} {fc hd : Int32} {a1 a2 a3 a4 a5 a6 a7 a8 a9 a10 a11 : Nat → Int32}
theorem cw_289 {z : Int32} (Hp : post 1 ()) : wL_lawOf_289 post mc ms z z kc ks := br_t rfl Hp
/-! the exit -/
theorem cw_245_bad {p x6 : Int32} {z : Int64} (h : p < 0 ∨ 3 < p) (Hp : post 1 ()) : wL_lawOf_245 post mc ms p x6 z z kc ks fc hd a1 a2 a3 a4 a5 a6 a7 a8 a9 a10 a11 := by
  unfold wL_lawOf_245
  refine br_t rfl (cw_e_bad h ?_)
  exact br_c (fun _ => cw_289 Hp) (fun h1 => br_f (fun h4 => by
    rcases h with h | h
    · exact h1 h
    · exact absurd h4 (Int32.not_le.mpr h)) (cw_289 Hp))
theorem cw_245_dead {p : Nat} {x6 : Int32} {z : Int64} (h0 : 0 < p) (hp : p < 4) (ha : a1 p = 0) (Hp : post 1 ()) : wL_lawOf_245 post mc ms (nI p) x6 z z kc ks fc hd a1 a2 a3 a4 a5 a6 a7 a8 a9 a10 a11 := by
  unfold wL_lawOf_245
  refine br_t rfl (cw_e_dead hp ha ?_)
  exact pk_lt p 0 (fun z => absurd z (by omega)) (fun _ => pk_le p 3 (fun _ => pk_le p 0 (fun z => absurd z (by omega)) (fun _ => cw_289 Hp)) (fun z => absurd z (by omega)))
theorem cw_245_0 {z : Int64} (ha : a1 0 = 1) (h2 : ∀ j, j < 20 → a2 j = -1) (Hp : post 1 ()) : wL_lawOf_245 post mc ms 0 0 z z kc ks fc hd a1 a2 a3 a4 a5 a6 a7 a8 a9 a10 a11 := by
  unfold wL_lawOf_245
  refine br_t rfl (cw_e_0 ha h2 (fun u => ?_))
  exact br_f (by decide) (br_t (by decide) (br_t (by decide) (br_t rfl (cw_289 Hp))))
theorem cw_245_1 {g : Nat} {z : Int64} (hg : g < 5) (ha : a1 0 = 1) (h2 : a2 g = 0) (h2' : ∀ j, j < 20 → j ≠ g → a2 j = -1) (h4 : a4 0 = 1) (h5 : a5 0 = 0 ∨ a5 0 = -1) (Hp : post 1 ()) : wL_lawOf_245 post mc ms 0 1 z z kc ks fc hd a1 a2 a3 a4 a5 a6 a7 a8 a9 a10 a11 := by
  unfold wL_lawOf_245
  refine br_t rfl (cw_e_1 hg ha h2 h2' h4 h5 (fun u => ?_))
  exact br_f (by decide) (br_t (by decide) (br_t (by decide) (br_f (by decide) (cw_289 Hp))))
/-! read, total and exit of a law without hit -/
theorem cw_200 {x1 x3 x4 x6 z : Int32} (hr : ∀ q : Int32 → St2 → Prop, q 0 (fc, hd, a1, a2, a3, a4, a5, a6, a7, a8, a9, a10, a11) → wpX_read q (fc, hd, a1, a2, a3, a4, a5, a6, a7, a8, a9, a10, a11) x1 x3) (ht : ∀ q : Int64 → Prop, q 0 → wpX_total q (fc, hd, a1, a2, a3, a4, a5, a6, a7, a8, a9, a10, a11)) (he : wL_lawOf_245 post mc ms x1 x6 0 0 kc ks fc hd a1 a2 a3 a4 a5 a6 a7 a8 a9 a10 a11) : wL_lawOf_200 post mc ms x1 x3 x4 x6 0 z z kc ks fc hd a1 a2 a3 a4 a5 a6 a7 a8 a9 a10 a11 := by
  unfold wL_lawOf_200
  refine br_t rfl (hr _ ?_)
  refine br_t rfl ?_
  unfold wL_lawOf_223
  exact br_t rfl (ht _ (br_t rfl he))
/-! p is no process -/
theorem cw_157_bad {p x3 x4 z : Int32} (h : p < 0 ∨ 3 < p) (h2 : ∀ j, j < 20 → a2 j = -1) (Hp : post 1 ()) : wL_lawOf_157 post mc ms p x3 x4 0 0 0 z z kc ks fc hd a1 a2 a3 a4 a5 a6 a7 a8 a9 a10 a11 := by
  unfold wL_lawOf_157
  have h' : ∀ c : Int32, p < 0 ∨ 3 < p ∨ c < 0 ∨ 19 < c := fun c => by
    rcases h with h | h
    · exact Or.inl h
    · exact Or.inr (Or.inl h)
  refine br_t rfl (cw_w_bad (h' x3) ?_)
  exact br_t rfl (cw_200 (fun q hq => cw_r_bad (h' x3) hq) (fun q hq => cw_t_0 h2 hq) (cw_245_bad h Hp))
/-! p is a dead process -/
theorem cw_157_dead_bad {p : Nat} {x3 x4 z : Int32} (h0 : 0 < p) (hp : p < 4) (ha : a1 p = 0) (hc : x3 < 0 ∨ 19 < x3) (h2 : ∀ j, j < 20 → a2 j = -1) (Hp : post 1 ()) : wL_lawOf_157 post mc ms (nI p) x3 x4 0 0 0 z z kc ks fc hd a1 a2 a3 a4 a5 a6 a7 a8 a9 a10 a11 := by
  unfold wL_lawOf_157
  refine br_t rfl (cw_w_bad (Or.inr (Or.inr hc)) ?_)
  exact br_t rfl (cw_200 (fun q hq => cw_r_bad (Or.inr (Or.inr hc)) hq) (fun q hq => cw_t_0 h2 hq) (cw_245_dead h0 hp ha Hp))
theorem cw_157_dead {p c : Nat} {x4 z : Int32} (h0 : 0 < p) (hp : p < 4) (ha : a1 p = 0) (hc : c < 20) (h2 : ∀ j, j < 20 → a2 j = -1) (Hp : post 1 ()) : wL_lawOf_157 post mc ms (nI p) (nI c) x4 0 1 0 z z kc ks fc hd a1 a2 a3 a4 a5 a6 a7 a8 a9 a10 a11 := by
  unfold wL_lawOf_157
  refine br_t rfl (cw_w_dead hp hc ha ?_)
  exact br_f (by decide) (pk_le p 0 (fun z => absurd z (by omega)) (fun _ => cw_200 (fun q hq => cw_r_dead hp hc ha hq) (fun q hq => cw_t_0 h2 hq) (cw_245_dead h0 hp ha Hp)))
/-! p = 0, nothing mapped -/
theorem cw_157_0_bad {x3 x4 z : Int32} (ha : a1 0 = 1) (hc : x3 < 0 ∨ 19 < x3) (h2 : ∀ j, j < 20 → a2 j = -1) (Hp : post 1 ()) : wL_lawOf_157 post mc ms 0 x3 x4 0 0 0 z z kc ks fc hd a1 a2 a3 a4 a5 a6 a7 a8 a9 a10 a11 := by
  unfold wL_lawOf_157
  refine br_t rfl (cw_w_bad (Or.inr (Or.inr hc)) ?_)
  exact br_t rfl (cw_200 (fun q hq => cw_r_bad (Or.inr (Or.inr hc)) hq) (fun q hq => cw_t_0 h2 hq) (cw_245_0 ha h2 Hp))
theorem cw_157_0 {c : Nat} {x4 z : Int32} (ha : a1 0 = 1) (hc : c < 20) (h2 : ∀ j, j < 20 → a2 j = -1) (Hp : post 1 ()) : wL_lawOf_157 post mc ms 0 (nI c) x4 0 1 0 z z kc ks fc hd a1 a2 a3 a4 a5 a6 a7 a8 a9 a10 a11 := by
  unfold wL_lawOf_157
  refine br_t rfl (cw_w_unm hc ha (h2 (c / 4) (by omega)) ?_)
  exact br_f (by decide) (br_t (by decide) (br_t rfl (cw_200 (fun q hq => cw_r_unm hc ha (h2 (c / 4) (by omega)) hq) (fun q hq => cw_t_0 h2 hq) (cw_245_0 ha h2 Hp))))
/-! p = 0, page g mapped -/
theorem cw_157_1_bad {g : Nat} {x3 x4 z : Int32} (hg : g < 5) (ha : a1 0 = 1) (hc : x3 < 0 ∨ 19 < x3) (h2 : a2 g = 0) (h2' : ∀ j, j < 20 → j ≠ g → a2 j = -1) (h3 : a3 g = 1) (h4 : a4 0 = 1) (h5 : a5 0 = -1) (h6 : a6 0 = 0) (Hp : post 1 ()) : wL_lawOf_157 post mc ms 0 x3 x4 1 0 0 z z kc ks fc hd a1 a2 a3 a4 a5 a6 a7 a8 a9 a10 a11 := by
  unfold wL_lawOf_157
  refine br_t rfl (cw_w_bad (Or.inr (Or.inr hc)) ?_)
  exact br_t rfl (cw_200 (fun q hq => cw_r_bad (Or.inr (Or.inr hc)) hq) (fun q hq => cw_t_1 (by omega) h2 h2' h3 (fun q hq => cw_s_0 h5 h6 hq) hq) (cw_245_1 hg ha h2 h2' h4 (Or.inr h5) Hp))
theorem cw_157_1 {g c : Nat} {x4 z : Int32} (hg : g < 5) (ha : a1 0 = 1) (hc : c < 20) (hn : c / 4 ≠ g) (h2 : a2 g = 0) (h2' : ∀ j, j < 20 → j ≠ g → a2 j = -1) (h3 : a3 g = 1) (h4 : a4 0 = 1) (h5 : a5 0 = -1) (h6 : a6 0 = 0) (Hp : post 1 ()) : wL_lawOf_157 post mc ms 0 (nI c) x4 1 1 0 z z kc ks fc hd a1 a2 a3 a4 a5 a6 a7 a8 a9 a10 a11 := by
  unfold wL_lawOf_157
  refine br_t rfl (cw_w_unm hc ha (h2' (c / 4) (by omega) hn) ?_)
  exact br_f (by decide) (br_t (by decide) (br_t rfl (cw_200 (fun q hq => cw_r_unm hc ha (h2' (c / 4) (by omega) hn) hq) (fun q hq => cw_t_1 (by omega) h2 h2' h3 (fun q hq => cw_s_0 h5 h6 hq) hq) (cw_245_1 hg ha h2 h2' h4 (Or.inr h5) Hp))))
theorem cw_200_hit {c : Nat} {v z : Int32} (hc : c < 20) (ha : a1 0 = 1) (h2 : a2 (c / 4) = 0) (h2' : ∀ j, j < 20 → j ≠ c / 4 → a2 j = -1) (h3 : a3 (c / 4) = 1) (h4 : a4 0 = 1) (h5 : a5 0 = 0) (h9 : a9 (c % 4) = v) (h9' : ∀ i, i < 4 → i ≠ c % 4 → a9 i = 0) (Hp : post 1 ()) : wL_lawOf_200 post mc ms 0 (nI c) v 1 1 z z kc ks fc hd a1 a2 a3 a4 a5 a6 a7 a8 a9 a10 a11 := by
  unfold wL_lawOf_200
  refine br_t rfl (cw_r_hit hc ha h2 h5 ?_)
  refine br_f (by decide) ?_
  unfold wL_lawOf_223
  refine br_t h9 (cw_t_1 (s := v.toInt64) (by omega) h2 h2' h3 (fun q hq => cw_s_1 (by omega) h5 h9 h9' hq) ?_)
  exact br_f (by decide) (cw_245_1 (g := c / 4) (by omega) ha h2 h2' h4 (Or.inl h5) Hp)
theorem cw_157_hit {c : Nat} {v z : Int32} (hc : c < 20) (hf : ¬ fc ≤ 0) (ha : a1 0 = 1) (h2 : a2 (c / 4) = 0) (h2' : ∀ j, j < 20 → j ≠ c / 4 → a2 j = -1) (h3 : a3 (c / 4) = 1) (h4 : a4 0 = 1) (h5 : a5 0 = -1) (h6 : a6 0 = 0) (h8 : a8 0 = -1) (Hp : post 1 ()) : wL_lawOf_157 post mc ms 0 (nI c) v 1 1 1 z z kc ks fc hd a1 a2 a3 a4 a5 a6 a7 a8 a9 a10 a11 := by
  unfold wL_lawOf_157
  refine br_t rfl (cw_w_hit hc ha h2 h3 hf h5 h6 h8 (fun b9 h9 => ?_))
  exact br_f (by decide) (br_t (by decide) (br_f (by decide) (cw_200_hit hc ha h2 h2' h3 h4 pk_us pk_us (fun i hi hn => by rw [pk_un hn]; exact h9 i hi) Hp)))
end
/-! init and the two maps -/
section
variable {post : Int32 → St0 → Prop} {mc ms kc ks : Nat} {f p g c v : Int32}
theorem cw_110_u {x7 x8 : Int32} (hm : kc + 12 ≤ mc) (hs : ks + 239 ≤ ms)
    (hq : ∀ (fc : Int32) (b2 b5 b8 : Nat → Int32) (b : Int32) (q : Int32 → St2 → Prop), q x7 (fc, 0, upd (fun _ => 0) 0 1, b2, fun _ => 0, fun _ => 0, b5, fun _ => 0, fun _ => 0, b8, fun _ => 0, fun _ => 0, fun _ => 0) → wpX_map q (fc, 0, upd (fun _ => 0) 0 1, b2, fun _ => 0, fun _ => 0, b5, fun _ => 0, fun _ => 0, b8, fun _ => 0, fun _ => 0, fun _ => 0) p g b)
    (he : ∀ (fc : Int32) (b2 b5 b8 : Nat → Int32), (∀ j, j < 20 → b2 j = -1) → wL_lawOf_157 post mc ms p c v 0 x8 0 x7 x7 (kc + 1 + 11) (ks + 13 + 226) fc 0 (upd (fun _ => 0) 0 1) b2 (fun _ => 0) (fun _ => 0) b5 (fun _ => 0) (fun _ => 0) b8 (fun _ => 0) (fun _ => 0) (fun _ => 0)) :
    wL_lawOf_110 post mc ms f p g c v 0 x7 x8 0 kc ks := by
  unfold wL_lawOf_110
  refine ⟨by omega, by omega, 11, 226, by omega, by omega, cw_init (by omega) (by omega) (fun fc b2 b5 b8 hf h2 h5 h8 => ?_)⟩
  refine hq fc b2 b5 b8 1 _ ?_
  refine br_t rfl (hq fc b2 b5 b8 0 _ ?_)
  exact br_t rfl (he fc b2 b5 b8 h2)
theorem cw_110_1 {n : Nat} {x8 z : Int32} (hm : kc + 12 ≤ mc) (hs : ks + 239 ≤ ms) (hn : n < 5)
    (he : ∀ (fc : Int32) (a1 a2 a3 a4 a5 a6 a7 a8 a9 a10 a11 : Nat → Int32), ¬ fc ≤ 0 → a1 0 = 1 → a2 n = 0 → (∀ j, j < 20 → j ≠ n → a2 j = -1) → a3 n = 1 → a4 0 = 1 → a5 0 = -1 → a6 0 = 0 → a8 0 = -1 → wL_lawOf_157 post mc ms 0 c v 1 x8 z (-4) (-4) (kc + 1 + 11) (ks + 13 + 226) fc 0 a1 a2 a3 a4 a5 a6 a7 a8 a9 a10 a11) :
    wL_lawOf_110 post mc ms f 0 (nI n) c v 1 (nI n) x8 z kc ks := by
  unfold wL_lawOf_110
  refine ⟨by omega, by omega, 11, 226, by omega, by omega, cw_init (by omega) (by omega) (fun fc b2 b5 b8 hf h2 h5 h8 => ?_)⟩
  refine cw_map_new hn cw_a1 (h2 n (by omega)) rfl ?_
  refine br_t rfl (cw_map_busy hn cw_a1 pk_us ?_)
  exact br_f (by decide) (he _ _ _ _ _ _ _ _ _ _ _ _ hf cw_a1 pk_us (fun j hj hj' => by rw [pk_un hj']; exact h2 j hj) pk_us pk_us pk_us pk_us (h8 0 (by omega)))
/-! the entry's choices -/
theorem cw_60_bad {x6 z : Int32} (h : p < 0 ∨ 3 < p ∨ c < 0 ∨ 19 < c) (H : wL_lawOf_85 post mc ms f p g c v x6 z kc ks) : wL_lawOf_60 post mc ms f p g c v x6 z kc ks :=
  br_c (fun _ => H) (fun h1 => br_c (fun _ => H) (fun h2 => br_c (fun _ => H) (fun h3 => br_t (by
    rcases h with h | h | h | h
    · exact absurd h h1
    · exact absurd h h2
    · exact absurd h h3
    · exact h) H)))
theorem cw_60_in {x6 z : Int32} (h1 : ¬ p < 0) (h2 : ¬ 3 < p) (h3 : ¬ c < 0) (h4 : ¬ 19 < c) (H : wL_lawOf_86 post mc ms f p g c v x6 z 1 kc ks) : wL_lawOf_60 post mc ms f p g c v x6 z kc ks :=
  br_f h1 (br_f h2 (br_f h3 (br_f h4 H)))
theorem cw_of_bad (h : p < 0 ∨ 3 < p ∨ g < 0 ∨ 4 < g) (H : wL_lawOf_60 post mc ms f p g c v 0 (-1) 0 0) : wpL_lawOf post mc ms () f p g c v := by
  have H38 : wL_lawOf_38 post mc ms f p g c v 0 0 0 := br_t rfl H
  have H22 : wL_lawOf_22 post mc ms f p g c v 0 0 := br_c (fun _ => br_t rfl H38) (fun _ => H38)
  exact br_c (fun _ => H22) (fun h1 => br_c (fun _ => H22) (fun h2 => br_c (fun _ => H22) (fun h3 => br_t (by
    rcases h with h | h | h | h
    · exact absurd h h1
    · exact absurd h h2
    · exact absurd h h3
    · exact h) H22)))
theorem cw_u86 {x7 x8 : Int32} (H : wL_lawOf_110 post mc ms f p g c v 0 x7 x8 0 kc ks) : wL_lawOf_86 post mc ms f p g c v 0 x7 x8 kc ks := br_t rfl H
theorem cw_lawOf (hm : 12 ≤ mc) (hs : 239 ≤ ms) (Hp : post 1 ()) : wpL_lawOf post mc ms () f p g c v := by
  by_cases p1 : p < 0 ∨ 3 < p
  · have hb : p < 0 ∨ 3 < p ∨ g < 0 ∨ 4 < g := by
      rcases p1 with h | h
      · exact Or.inl h
      · exact Or.inr (Or.inl h)
    have hb' : p < 0 ∨ 3 < p ∨ c < 0 ∨ 19 < c := by
      rcases p1 with h | h
      · exact Or.inl h
      · exact Or.inr (Or.inl h)
    exact cw_of_bad hb (cw_60_bad hb' (cw_u86 (cw_110_u (by omega) (by omega) (fun fc b2 b5 b8 b q hq => cw_map_bad hb hq) (fun fc b2 b5 b8 h2 => cw_157_bad p1 h2 Hp))))
  · have q1 : ¬ p < 0 := fun h => p1 (Or.inl h)
    have q2 : ¬ 3 < p := fun h => p1 (Or.inr h)
    by_cases p2 : g < 0 ∨ 4 < g
    · have hb : p < 0 ∨ 3 < p ∨ g < 0 ∨ 4 < g := Or.inr (Or.inr p2)
      refine cw_of_bad hb ?_
      obtain ⟨k, hk, e⟩ := cw_up (n := 3) rfl q1 q2
      by_cases p3 : c < 0 ∨ 19 < c
      · refine cw_60_bad (Or.inr (Or.inr p3)) (cw_u86 (cw_110_u (by omega) (by omega) (fun fc b2 b5 b8 b q hq => cw_map_bad hb hq) (fun fc b2 b5 b8 h2 => ?_)))
        subst e
        by_cases k0 : k = 0
        · subst k0
          exact cw_157_0_bad cw_a1 p3 h2 Hp
        · exact cw_157_dead_bad (by omega) (by omega) (cw_a1' (by omega)) p3 h2 Hp
      · have q3 : ¬ c < 0 := fun h => p3 (Or.inl h)
        have q4 : ¬ 19 < c := fun h => p3 (Or.inr h)
        obtain ⟨d, hd, e'⟩ := cw_up (n := 19) rfl q3 q4
        refine cw_60_in q1 q2 q3 q4 (cw_u86 (cw_110_u (by omega) (by omega) (fun fc b2 b5 b8 b q hq => cw_map_bad hb hq) (fun fc b2 b5 b8 h2 => ?_)))
        subst e e'
        by_cases k0 : k = 0
        · subst k0
          exact cw_157_0 cw_a1 (by omega) h2 Hp
        · exact cw_157_dead (by omega) (by omega) (cw_a1' (by omega)) (by omega) h2 Hp
    · have r1 : ¬ g < 0 := fun h => p2 (Or.inl h)
      have r2 : ¬ 4 < g := fun h => p2 (Or.inr h)
      refine br_f q1 (br_f q2 (br_f r1 (br_f r2 ?_)))
      obtain ⟨k, hk, e⟩ := cw_up (n := 3) rfl q1 q2
      obtain ⟨n, hn, en⟩ := cw_up (n := 4) rfl r1 r2
      by_cases k0 : k = 0
      · subst k0
        have e : p = 0 := e
        subst e en
        refine br_t rfl (br_f (by decide) (br_f (by decide) (br_t (by decide) ?_)))
        by_cases p3 : c < 0 ∨ 19 < c
        · refine cw_60_bad (Or.inr (Or.inr p3)) (br_f (by decide) (br_t rfl ?_))
          exact cw_110_1 (by omega) (by omega) (by omega) (fun fc a1 a2 a3 a4 a5 a6 a7 a8 a9 a10 a11 hf h1 h2 h2' h3 h4 h5 h6 h8 => cw_157_1_bad (by omega) h1 p3 h2 h2' h3 h4 h5 h6 Hp)
        · have q3 : ¬ c < 0 := fun h => p3 (Or.inl h)
          have q4 : ¬ 19 < c := fun h => p3 (Or.inr h)
          obtain ⟨d, hd, e'⟩ := cw_up (n := 19) rfl q3 q4
          subst e'
          refine cw_60_in q1 q2 q3 q4 (br_f (by decide) (br_f (by decide) ?_))
          refine pk_eq (d / 4) n (fun z => ?_) (fun z => ?_) (cw_shr (by omega))
          · subst z
            exact cw_110_1 (by omega) (by omega) (by omega) (fun fc a1 a2 a3 a4 a5 a6 a7 a8 a9 a10 a11 hf h1 h2 h2' h3 h4 h5 h6 h8 => cw_157_hit (by omega) hf h1 h2 h2' h3 h4 h5 h6 h8 Hp)
          · exact cw_110_1 (by omega) (by omega) (by omega) (fun fc a1 a2 a3 a4 a5 a6 a7 a8 a9 a10 a11 hf h1 h2 h2' h3 h4 h5 h6 h8 => cw_157_1 (by omega) h1 (by omega) z h2 h2' h3 h4 h5 h6 Hp)
      · subst e en
        refine br_f (nI_ne0 (by omega) (by omega)) (br_f (by decide) (br_f (nI_nle (by omega) (by omega)) ?_))
        by_cases p3 : c < 0 ∨ 19 < c
        · exact cw_60_bad (Or.inr (Or.inr p3)) (cw_u86 (cw_110_u (by omega) (by omega) (fun fc b2 b5 b8 b q hq => cw_map_dead (by omega) (by omega) (cw_a1' (by omega)) hq) (fun fc b2 b5 b8 h2 => cw_157_dead_bad (by omega) (by omega) (cw_a1' (by omega)) p3 h2 Hp)))
        · have q3 : ¬ c < 0 := fun h => p3 (Or.inl h)
          have q4 : ¬ 19 < c := fun h => p3 (Or.inr h)
          obtain ⟨d, hd, e'⟩ := cw_up (n := 19) rfl q3 q4
          subst e'
          exact cw_60_in q1 q2 q3 q4 (cw_u86 (cw_110_u (by omega) (by omega) (fun fc b2 b5 b8 b q hq => cw_map_dead (by omega) (by omega) (cw_a1' (by omega)) hq) (fun fc b2 b5 b8 h2 => cw_157_dead (by omega) (by omega) (cw_a1' (by omega)) (by omega) h2 Hp)))
end
theorem cw_cell {post : Int32 → Prop} {L : Nat} {xs : Nat → Int32} (hL : L ≤ 5) (k : Nat) (hk : k < 5) (H : ∀ r, post r) : wpL_cellAt post L xs () (nI k) :=
  pk_le L k (fun _ => H _) (fun z => ⟨pk_in k L z, H _⟩)
end
section
theorem i_vc (xs : Nat → Int32) (L : Nat) (hL : L ≤ 5) : wpL_law (fun r => r = 1) L xs := by
  unfold wpL_law
  exact cw_cell hL 0 (by omega) (fun r1 => cw_cell hL 1 (by omega) (fun r2 => cw_cell hL 2 (by omega) (fun r3 => cw_cell hL 3 (by omega) (fun r4 => cw_cell hL 4 (by omega) (fun r5 => ⟨12, 239, by omega, by omega, cw_lawOf (by omega) (by omega) rfl⟩)))))
end

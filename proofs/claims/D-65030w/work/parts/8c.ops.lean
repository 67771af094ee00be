/-! PLAIN LEAN, 53: component and twin answer alike -/
def OI (w t : MH → Option MR) (B : Nat) (σ : AS) (O : List Nat) : Prop := ∃ (k : Nat) (kk x : Int32) (r : Int64) (σ' : AS) (O' : List Nat), kk = nI k ∧ k ≤ 3 ∧ r = x.toInt64 ∧ (∀ h, CP σ O h → Ret (w h) (CR h kk r σ' O')) ∧ (∀ th h, TW th σ h → Ret (t h) (TP h (.int x) k σ')) ∧ GD (B + 1000000) σ' O'
def OB (w t : MH → Option MR) (B : Nat) (σ : AS) (O : List Nat) : Prop := ∃ (k : Nat) (kk : Int32) (b : Bool) (r : Int64) (σ' : AS) (O' : List Nat), kk = nI k ∧ k ≤ 3 ∧ r = (if b = true then 1 else 0) ∧ (∀ h, CP σ O h → Ret (w h) (CR h kk r σ' O')) ∧ (∀ th h, TW th σ h → Ret (t h) (TP h (.int (b2i b)) k σ')) ∧ GD (B + 1000000) σ' O'
def OL (w t : MH → Option MR) (B : Nat) (σ : AS) (O : List Nat) : Prop := ∃ (k : Nat) (kk : Int32) (r : Int64) (σ' : AS) (O' : List Nat), kk = nI k ∧ k ≤ 3 ∧ (∀ h, CP σ O h → Ret (w h) (CR h kk r σ' O')) ∧ (∀ th h, TW th σ h → Ret (t h) (TP h (.long r) k σ')) ∧ GD (B + 1000000) σ' O'
def OQ (w t : MH → Option MR) (B : Nat) (σ : AS) (O : List Nat) : Prop := ∃ (x : Int32) (σ' : AS) (O' : List Nat), (∀ h, CP σ O h → Ret (w h) (CQ h (.int x) σ' O')) ∧ (∀ th h, TW th σ h → Ret (t h) (TP h (.int x) 0 σ')) ∧ GD (B + 1000000) σ' O'
def OF (w t : MH → Option MR) (B : Nat) (σ : AS) (O : List Nat) : Prop := ∃ (k : Nat) (kk : Int32) (σ' : AS) (O' : List Nat), kk = nI k ∧ k ≤ 3 ∧ (∀ h, CP σ O h → Ret (w h) (CQ h (.int kk) σ' O')) ∧ (∀ th h, TW th σ h → Ret (t h) (TPv h k σ')) ∧ GD (B + 1000000) σ' O'
theorem bf {b : Bool} (h : ¬ b = true) : b = false := by simpa using h
theorem ba {a b : Bool} (h : (a && b) = true) : a = true ∧ b = true := by simpa using h
section OPS
variable {B d : Nat} {σ : AS} {O : List Nat}
theorem o_rope (G : GD B σ O) (m g a : Int32) : OI (run (d + 102) 1 0 [.ref 5, .int m, .int g, .int a, .ref 34, .null] []) (run (d + 102) 73 0 [.ref 16, .int m, .int g, .int a] []) B σ O := by
  have G' := G.mono (Nat.le_add_right B 1000000)
  obtain ⟨hL, hV, hS, hB⟩ := G.1
  by_cases c1 : inR a 0 3 = true
  · by_cases c2 : (inR m 1 200 && inR g 0 20000) = true
    · by_cases c3 : (σ.2 1).length < 8
      · obtain ⟨c2a, c2b⟩ := ba c2
        obtain ⟨a, a1, a2, rfl⟩ := inR_of (lo := 0) (hi := 3) c1 rfl rfl (by omega) (by omega)
        obtain ⟨m, m1, m2, rfl⟩ := inR_of (lo := 1) (hi := 200) c2a rfl rfl (by omega) (by omega)
        obtain ⟨g, g1, g2, rfl⟩ := inR_of (lo := 0) (hi := 20000) c2b rfl rfl (by omega) (by omega)
        exact ⟨0, 0, _, _, _, _, rfl, by omega, rfl, fun h H => w_rope (d := d + 93) H hL m1 m2 g2 a2 c3, fun th h T => t_rope (d := d + 101) T hL m1 m2 g2 a2 c3, k_rope G' m1 m2 g2 a2 c3⟩
      · have c4 : (σ.2 1).length = 8 := by have := hL.1; omega
        obtain ⟨c2a, c2b⟩ := ba c2
        exact ⟨3, 3, 0, 0, σ, O, rfl, by omega, rfl, fun h H => w_rope3 (d := d + 98) H c1 c2a c2b c4, fun th h T => t_rope3 (d := d + 101) T hL c1 c2a c2b c4, G'⟩
    · exact ⟨2, 2, 0, 0, σ, O, rfl, by omega, rfl, fun h H => w_rope2 (d := d + 98) H c1 (bf c2), fun th h T => t_rope2 (d := d + 101) T hL c1 (bf c2), G'⟩
  · exact ⟨1, 1, 0, 0, σ, O, rfl, by omega, rfl, fun h H => w_rope1 (d := d + 98) H (bf c1), fun th h T => t_rope1 (d := d + 101) T hL (bf c1), G'⟩
theorem o_bears (G : GD B σ O) (k v : Int32) : OI (run (d + 102) 2 0 [.ref 5, .int k, .int v, .ref 34, .null] []) (run (d + 102) 75 0 [.ref 16, .int k, .int v, .null] []) B σ O := by
  have G' := G.mono (Nat.le_add_right B 1000000)
  obtain ⟨hL, hV, hS, hB⟩ := G.1
  by_cases c1 : (inR k 1 400 && inR v 0 200) = true
  · obtain ⟨c2a, c2b⟩ := ba c1
    obtain ⟨k, k1, k2, rfl⟩ := inR_of (lo := 1) (hi := 400) c2a rfl rfl (by omega) (by omega)
    obtain ⟨v, v1, v2, rfl⟩ := inR_of (lo := 0) (hi := 200) c2b rfl rfl (by omega) (by omega)
    exact ⟨0, 0, _, _, _, _, rfl, by omega, rfl, fun h H => w_bears (d := d + 99) H hL k1 k2 v2, fun th h T => t_bears (d := d + 101) T hL k1 k2 v2, k_bears G' v2⟩
  · exact ⟨1, 1, 0, 0, σ, O, rfl, by omega, rfl, fun h H => w_bears1 (d := d + 99) H (bf c1), fun th h T => t_bears1 (d := d + 101) T hL (bf c1), G'⟩
theorem o_storm (G : GD B σ O) (k v : Int32) : OI (run (d + 102) 3 0 [.ref 5, .int k, .int v, .ref 34, .null] []) (run (d + 102) 76 0 [.ref 16, .int k, .int v, .null] []) B σ O := by
  have G' := G.mono (Nat.le_add_right B 1000000)
  obtain ⟨hL, hV, hS, hB⟩ := G.1
  by_cases c1 : (inR k 1 400 && inR v 0 20000000) = true
  · obtain ⟨c2a, c2b⟩ := ba c1
    obtain ⟨k, k1, k2, rfl⟩ := inR_of (lo := 1) (hi := 400) c2a rfl rfl (by omega) (by omega)
    obtain ⟨v, v1, v2, rfl⟩ := inR_of (lo := 0) (hi := 20000000) c2b rfl rfl (by omega) (by omega)
    exact ⟨0, 0, _, _, _, _, rfl, by omega, rfl, fun h H => w_storm (d := d + 99) H hL k1 k2 v2, fun th h T => t_storm (d := d + 101) T hL k1 k2 v2, k_storm G' v2⟩
  · exact ⟨1, 1, 0, 0, σ, O, rfl, by omega, rfl, fun h H => w_storm1 (d := d + 99) H (bf c1), fun th h T => t_storm1 (d := d + 101) T hL (bf c1), G'⟩
theorem o_run (G : GD B σ O) (hB9 : B ≤ 1000000000) (n : Int32) : OI (run (d + 102) 4 0 [.ref 5, .int n, .ref 34, .null] []) (run (d + 102) 77 0 [.ref 16, .int n, .null, .null] []) B σ O := by
  have G' := G.mono (Nat.le_add_right B 1000000)
  obtain ⟨hL, hV, hS, hB⟩ := G.1
  by_cases c1 : inR n 0 100 = true
  · obtain ⟨n, n1, n2, rfl⟩ := inR_of (lo := 0) (hi := 100) c1 rfl rfl (by omega) (by omega)
    by_cases c2 : σ.1 0 + n ≤ 400
    · exact ⟨0, 0, _, _, _, _, rfl, by omega, rfl, fun h H => w_run (d := d + 96) hB9 H G.1 n2 c2, fun th h T => t_run (d := d + 101) hB9 T G.1 n2 c2, k_run G' c2⟩
    · exact ⟨2, 2, 0, 0, σ, O, rfl, by omega, rfl, fun h H => w_run2 (d := d + 99) H hS n2 c2, fun th h T => t_run2 (d := d + 101) T hL n2 hS c2, G'⟩
  · exact ⟨1, 1, 0, 0, σ, O, rfl, by omega, rfl, fun h H => w_run1 (d := d + 99) H (bf c1), fun th h T => t_run1 (d := d + 101) T hL (bf c1), G'⟩
theorem o_about (G : GD B σ O) (r w : Int32) : OL (run (d + 102) 5 0 [.ref 5, .int r, .int w, .ref 34, .null] []) (run (d + 102) 80 0 [.ref 16, .int r, .int w] []) B σ O := by
  have G' := G.mono (Nat.le_add_right B 1000000)
  obtain ⟨hL, hV, hS, hB⟩ := G.1
  by_cases c1 : (inR r 0 (nI (σ.2 1).length - 1) && inR w 0 4) = true
  · obtain ⟨c2a, c2b⟩ := ba c1
    obtain ⟨k, k1, rfl⟩ := inR_ix c2a (by have := hL.1; omega)
    obtain ⟨w, w1, w2, rfl⟩ := inR_of (lo := 0) (hi := 4) c2b rfl rfl (by omega) (by omega)
    exact ⟨0, 0, _, _, _, rfl, by omega, fun h H => w_about (d := d + 97) H hL hV k1 w2, fun th h T => t_about (d := d + 100) T hL hV k1 w2, G'⟩
  · exact ⟨1, 1, 0, σ, O, rfl, by omega, fun h H => w_about1 (d := d + 97) H hL (bf c1), fun th h T => t_about1 (d := d + 100) T hL (bf c1), G'⟩
theorem o_thin (G : GD B σ O) (r a b : Int32) : OI (run (d + 102) 6 0 [.ref 5, .int r, .int a, .int b, .ref 34, .null] []) (run (d + 102) 82 0 [.ref 16, .int r, .int a, .int b] []) B σ O := by
  have G' := G.mono (Nat.le_add_right B 1000000)
  obtain ⟨hL, hV, hS, hB⟩ := G.1
  by_cases c1 : inR r 0 (nI (σ.2 1).length - 1) = true
  · by_cases c2 : (inR b 1 1000 && inR a 0 b) = true
    · obtain ⟨c2a, c2b⟩ := ba c2
      obtain ⟨k, k1, rfl⟩ := inR_ix c1 (by have := hL.1; omega)
      obtain ⟨b, b1, b2, rfl⟩ := inR_of (lo := 1) (hi := 1000) c2a rfl rfl (by omega) (by omega)
      obtain ⟨a, a1, a2, rfl⟩ := inR_of (lo := 0) (hi := b) c2b rfl rfl (by omega) (by omega)
      have hv : (σ.2 3).getD k 0 * a / b ≤ 100000 := Nat.le_trans (mdv a2 b1) (hV k).2.2.2.1
      exact ⟨0, 0, _, _, _, _, rfl, by omega, rfl, fun h H => w_thin (d := d + 97) H hL hV k1 b1 b2 a2, fun th h T => t_thin (d := d + 100) T hL hV k1 b1 b2 a2, k_thin G' hv⟩
    · exact ⟨2, 2, 0, 0, σ, O, rfl, by omega, rfl, fun h H => w_thin2 (d := d + 97) H hL c1 (bf c2), fun th h T => t_thin2 (d := d + 100) T hL c1 (bf c2), G'⟩
  · exact ⟨1, 1, 0, 0, σ, O, rfl, by omega, rfl, fun h H => w_thin1 (d := d + 97) H (bf c1), fun th h T => t_thin1 (d := d + 100) T hL (bf c1), G'⟩
theorem o_harvest (G : GD B σ O) (r : Int32) : OI (run (d + 102) 7 0 [.ref 5, .int r, .ref 34, .null] []) (run (d + 102) 83 0 [.ref 16, .int r, .null] []) B σ O := by
  have G' := G.mono (Nat.le_add_right B 1000000)
  obtain ⟨⟨hL, hV, hS, hB⟩, hO, hn, hW⟩ := G
  have h60 := hO.2.2
  by_cases c1 : inR r 0 (nI (σ.2 1).length - 1) = true
  · obtain ⟨k, k1, rfl⟩ := inR_ix c1 (by have := hL.1; omega)
    by_cases c2 : onD (cls σ O ((σ.2 2).getD k 0) (σ.1 0) (σ.1 0)) (σ.1 0) = true
    · exact ⟨2, 2, 0, 0, σ, O, rfl, by omega, rfl, fun h H => w_harvest2 (d := d + 97) H hL hV hS hW h60 k1 c2, fun th h T => t_harvest2 (d := d + 99) T hL hV hS hW hO k1 c2, G'⟩
    · exact ⟨0, 0, _, _, _, _, rfl, by omega, rfl, fun h H => w_harvest (d := d + 97) H hL hV hS hW h60 k1 (bf c2), fun th h T => t_harvest (d := d + 99) T hL hV hS hW hO k1 (bf c2), k_thin G' (by omega)⟩
  · exact ⟨1, 1, 0, 0, σ, O, rfl, by omega, rfl, fun h H => w_harvest1 (d := d + 97) H (bf c1), fun th h T => t_harvest1 (d := d + 100) T hL (bf c1), G'⟩
theorem o_sample (G : GD B σ O) (a y c t : Int32) : OI (run (d + 102) 8 0 [.ref 5, .int a, .int y, .int c, .int t, .ref 34, .null] []) (run (d + 102) 93 0 [.ref 16, .int a, .int y, .int c, .int t] []) B σ O := by
  have G' := G.mono (Nat.le_add_right B 1000000)
  obtain ⟨⟨hL, hV, hS, hB⟩, hO, hn, hW⟩ := G
  by_cases c1 : inR a 0 3 = true
  · by_cases c2 : (inR y 0 400 && inR c 0 100000 && inR t y 400) = true
    · by_cases c3 : (σ.2 6).length < 60
      · obtain ⟨c2a, c2d⟩ := ba c2
        obtain ⟨c2b, c2c⟩ := ba c2a
        obtain ⟨a, a1, a2, rfl⟩ := inR_of (lo := 0) (hi := 3) c1 rfl rfl (by omega) (by omega)
        obtain ⟨y, y1, y2, rfl⟩ := inR_of (lo := 0) (hi := 400) c2b rfl rfl (by omega) (by omega)
        obtain ⟨c, c3, c4, rfl⟩ := inR_of (lo := 0) (hi := 100000) c2c rfl rfl (by omega) (by omega)
        obtain ⟨t, t1, t2, rfl⟩ := inR_of (lo := y) (hi := 400) c2d rfl rfl (by omega) (by omega)
        exact ⟨0, 0, _, _, _, _, rfl, by omega, rfl, fun h H => w_sample (d := d + 93) H hL hV (fun i hi => (hO.2.1 i).mpr hi) hn a2 y2 c4 t1 t2 ‹_›, fun th h T => t_sample (d := d + 101) T hL a2 y2 c4 t1 t2 ‹_›, k_sample G' a2 y2 c4 t2 ‹_›⟩
      · have c4 : (σ.2 6).length = 60 := by have := hL.2.2.2.2.2.1; omega
        exact ⟨3, 3, 0, 0, σ, O, rfl, by omega, rfl, fun h H => w_sample3 (d := d + 98) H c1 c2 (hn.trans c4), fun th h T => t_sample3 (d := d + 101) T hL c1 c2 c4, G'⟩
    · exact ⟨2, 2, 0, 0, σ, O, rfl, by omega, rfl, fun h H => w_sample2 (d := d + 98) H c1 (bf c2), fun th h T => t_sample2 (d := d + 101) T hL c1 (bf c2), G'⟩
  · exact ⟨1, 1, 0, 0, σ, O, rfl, by omega, rfl, fun h H => w_sample1 (d := d + 98) H (bf c1), fun th h T => t_sample1 (d := d + 101) T hL (bf c1), G'⟩
theorem o_closed (G : GD B σ O) (a y t : Int32) : OB (run (d + 102) 9 0 [.ref 5, .int a, .int y, .int t, .ref 34, .null] []) (run (d + 102) 94 0 [.ref 16, .int a, .int y, .int t] []) B σ O := by
  have G' := G.mono (Nat.le_add_right B 1000000)
  obtain ⟨⟨hL, hV, hS, hB⟩, hO, hn, hW⟩ := G
  by_cases c1 : inR a 0 3 = true
  · by_cases c2 : (inR y 0 1000 && inR t 0 1000) = true
    · obtain ⟨c2a, c2b⟩ := ba c2
      obtain ⟨a, a1, a2, rfl⟩ := inR_of (lo := 0) (hi := 3) c1 rfl rfl (by omega) (by omega)
      obtain ⟨y, y1, y2, rfl⟩ := inR_of (lo := 0) (hi := 1000) c2a rfl rfl (by omega) (by omega)
      obtain ⟨t, t1, t2, rfl⟩ := inR_of (lo := 0) (hi := 1000) c2b rfl rfl (by omega) (by omega)
      exact ⟨0, 0, _, _, _, _, rfl, by omega, rfl, fun h H => w_closed (d := d + 97) H hL hV hW hO.2.2 a2 y2 t2, fun th h T => t_closed (d := d + 99) T hL hV hW hO a2 y2 t2, G'⟩
    · exact ⟨2, 2, false, 0, σ, O, rfl, by omega, rfl, fun h H => w_closed2 (d := d + 98) H c1 (bf c2), fun th h T => t_closed2 (d := d + 101) T hL c1 (bf c2), G'⟩
  · exact ⟨1, 1, false, 0, σ, O, rfl, by omega, rfl, fun h H => w_closed1 (d := d + 98) H (bf c1), fun th h T => t_closed1 (d := d + 101) T hL (bf c1), G'⟩
theorem o_reopens (G : GD B σ O) (a t : Int32) : OI (run (d + 102) 10 0 [.ref 5, .int a, .int t, .ref 34, .null] []) (run (d + 102) 95 0 [.ref 16, .int a, .int t] []) B σ O := by
  have G' := G.mono (Nat.le_add_right B 1000000)
  obtain ⟨⟨hL, hV, hS, hB⟩, hO, hn, hW⟩ := G
  by_cases c1 : inR a 0 3 = true
  · by_cases c2 : inR t 0 1000 = true
    · obtain ⟨a, a1, a2, rfl⟩ := inR_of (lo := 0) (hi := 3) c1 rfl rfl (by omega) (by omega)
      obtain ⟨t, t1, t2, rfl⟩ := inR_of (lo := 0) (hi := 1000) c2 rfl rfl (by omega) (by omega)
      exact ⟨0, 0, _, _, _, _, rfl, by omega, rfl, fun h H => w_reopens (d := d + 97) H hL hV hW hO.2.2 a2 t2, fun th h T => t_reopens (d := d + 100) T hL hV hW hO a2 t2, G'⟩
    · exact ⟨2, 2, 0, 0, σ, O, rfl, by omega, rfl, fun h H => w_reopens2 (d := d + 98) H c1 (bf c2), fun th h T => t_reopens2 (d := d + 101) T hL c1 (bf c2), G'⟩
  · exact ⟨1, 1, 0, 0, σ, O, rfl, by omega, rfl, fun h H => w_reopens1 (d := d + 98) H (bf c1), fun th h T => t_reopens1 (d := d + 101) T hL (bf c1), G'⟩
theorem o_changed (G : GD B σ O) (a : Int32) : OI (run (d + 102) 11 0 [.ref 5, .int a, .ref 34, .null] []) (run (d + 102) 96 0 [.ref 16, .int a, .null, .null, .null] []) B σ O := by
  have G' := G.mono (Nat.le_add_right B 1000000)
  obtain ⟨⟨hL, hV, hS, hB⟩, hO, hn, hW⟩ := G
  by_cases c1 : inR a 0 3 = true
  · obtain ⟨a, a1, a2, rfl⟩ := inR_of (lo := 0) (hi := 3) c1 rfl rfl (by omega) (by omega)
    exact ⟨0, 0, _, _, _, _, rfl, by omega, rfl, fun h H => w_changed (d := d + 97) H hL hV hS hW hO.2.2 a2, fun th h T => t_changed (d := d + 99) T hL hV hS hW hO a2, G'⟩
  · exact ⟨1, 1, 0, 0, σ, O, rfl, by omega, rfl, fun h H => w_changed1 (d := d + 98) H (bf c1), fun th h T => t_changed1 (d := d + 101) T hL (bf c1) hS, G'⟩
theorem o_plan (G : GD B σ O) (n m : Int32) : OI (run (d + 102) 12 0 [.ref 5, .int n, .int m, .ref 34, .null] []) (run (d + 102) 97 0 [.ref 16, .int n, .int m] []) B σ O := by
  have G' := G.mono (Nat.le_add_right B 1000000)
  obtain ⟨hL, hV, hS, hB⟩ := G.1
  by_cases c1 : (inR n 1 10 && inR m 0 n) = true
  · obtain ⟨c2a, c2b⟩ := ba c1
    by_cases c3 : (σ.2 10).length < 6
    · obtain ⟨n, n1, n2, rfl⟩ := inR_of (lo := 1) (hi := 10) c2a rfl rfl (by omega) (by omega)
      obtain ⟨m, m1, m2, rfl⟩ := inR_of (lo := 0) (hi := n) c2b rfl rfl (by omega) (by omega)
      exact ⟨0, 0, _, _, _, _, rfl, by omega, rfl, fun h H => w_plan (d := d + 93) H hL n1 n2 m2 c3, fun th h T => t_plan (d := d + 101) T hL n1 n2 m2 c3, k_plan G' n2 m2 c3⟩
    · have c4 : (σ.2 10).length = 6 := by have := hL.2.2.2.2.2.2.2.2.2.1; omega
      exact ⟨2, 2, 0, 0, σ, O, rfl, by omega, rfl, fun h H => w_plan2 (d := d + 98) H c2a c2b c4, fun th h T => t_plan2 (d := d + 101) T hL c1 c4, G'⟩
  · exact ⟨1, 1, 0, 0, σ, O, rfl, by omega, rfl, fun h H => w_plan1 (d := d + 98) H (bf c1), fun th h T => t_plan1 (d := d + 101) T hL (bf c1), G'⟩
theorem o_odds (G : GD B σ O) (p x b q : Int32) : OL (run (d + 102) 13 0 [.ref 5, .int p, .int x, .int b, .int q, .ref 34, .null] []) (run (d + 102) 98 0 [.ref 16, .int p, .int x, .int b, .int q, .null, .null, .null, .null, .null, .null, .null, .null, .null, .null, .null, .null, .null] []) B σ O := by
  have G' := G.mono (Nat.le_add_right B 1000000)
  obtain ⟨hL, hV, hS, hB⟩ := G.1
  by_cases c1 : (inR p 0 (nI (σ.2 10).length - 1) && inR q 0 1) = true
  · by_cases c2 : (inR b 1 20 && inR x 0 b) = true
    · obtain ⟨c1a, c1b⟩ := ba c1
      obtain ⟨c2a, c2b⟩ := ba c2
      obtain ⟨p, p1, rfl⟩ := inR_ix c1a (by have := hL.2.2.2.2.2.2.2.2.2.1; omega)
      obtain ⟨q, q1, q2, rfl⟩ := inR_of (lo := 0) (hi := 1) c1b rfl rfl (by omega) (by omega)
      obtain ⟨b, b1, b2, rfl⟩ := inR_of (lo := 1) (hi := 20) c2a rfl rfl (by omega) (by omega)
      obtain ⟨x, x1, x2, rfl⟩ := inR_of (lo := 0) (hi := b) c2b rfl rfl (by omega) (by omega)
      exact ⟨0, 0, _, _, _, rfl, by omega, fun h H => w_odds (d := d) H hL hV p1 q2 b1 b2 x2, fun th h T => t_odds (d := d + 101) T hL hV p1 q2 b1 b2 x2, G'⟩
    · exact ⟨2, 2, 0, σ, O, rfl, by omega, fun h H => w_odds2 (d := d + 98) H hL c1 (bf c2), fun th h T => t_odds2 (d := d + 101) T hL c1 (bf c2), G'⟩
  · exact ⟨1, 1, 0, σ, O, rfl, by omega, fun h H => w_odds1 (d := d + 98) H hL (bf c1), fun th h T => t_odds1 (d := d + 101) T hL (bf c1), G'⟩
theorem o_water (G : GD B σ O) (a v : Int32) : OI (run (d + 102) 14 0 [.ref 5, .int a, .int v, .ref 34, .null] []) (run (d + 102) 100 0 [.ref 16, .int a, .int v, .null] []) B σ O := by
  have G' := G.mono (Nat.le_add_right B 1000000)
  obtain ⟨hL, hV, hS, hB⟩ := G.1
  by_cases c1 : inR a 0 3 = true
  · by_cases c2 : inR v 0 1000000 = true
    · obtain ⟨a, a1, a2, rfl⟩ := inR_of (lo := 0) (hi := 3) c1 rfl rfl (by omega) (by omega)
      obtain ⟨v, v1, v2, rfl⟩ := inR_of (lo := 0) (hi := 1000000) c2 rfl rfl (by omega) (by omega)
      exact ⟨0, 0, _, _, _, _, rfl, by omega, rfl, fun h H => w_water (d := d + 98) H hL a2 v2, fun th h T => t_water (d := d + 101) T hL a2 v2, k_water G v2⟩
    · exact ⟨2, 2, 0, 0, σ, O, rfl, by omega, rfl, fun h H => w_water2 (d := d + 98) H c1 (bf c2), fun th h T => t_water2 (d := d + 101) T hL c1 (bf c2), G'⟩
  · exact ⟨1, 1, 0, 0, σ, O, rfl, by omega, rfl, fun h H => w_water1 (d := d + 98) H (bf c1), fun th h T => t_water1 (d := d + 101) T hL (bf c1), G'⟩
theorem o_plankton (G : GD B σ O) (a : Int32) : OL (run (d + 102) 15 0 [.ref 5, .int a, .ref 34, .null] []) (run (d + 102) 101 0 [.ref 16, .int a, .null, .null, .null] []) B σ O := by
  have G' := G.mono (Nat.le_add_right B 1000000)
  obtain ⟨hL, hV, hS, hB⟩ := G.1
  by_cases c0 : a = -1
  · subst c0
    exact ⟨0, 0, _, _, _, rfl, by omega, fun h H => w_planktonS (d := d + 98) H hL, fun th h T => t_planktonS (d := d + 101) T hL, G'⟩
  · by_cases c1 : inR a 0 3 = true
    · obtain ⟨a, a1, a2, rfl⟩ := inR_of (lo := 0) (hi := 3) c1 rfl rfl (by omega) (by omega)
      exact ⟨0, 0, _, _, _, rfl, by omega, fun h H => w_plankton (d := d + 98) H hL a2, fun th h T => t_plankton (d := d + 101) T hL a2, G'⟩
    · exact ⟨1, 1, 0, σ, O, rfl, by omega, fun h H => w_plankton1 (d := d + 98) H c0 (bf c1), fun th h T => t_plankton1 (d := d + 101) T hL c0 (bf c1), G'⟩
theorem o_flow (G : GD B σ O) (a b : Int32) : OF (run (d + 102) 16 0 [.ref 5, .int a, .int b, .null] []) (run (d + 102) 102 0 [.ref 16, .int a, .int b] []) B σ O := by
  have G' := G.mono (Nat.le_add_right B 1000000)
  obtain ⟨hL, hV, hS, hB⟩ := G.1
  by_cases c1 : (inR b 1 100 && inR a 0 b) = true
  · obtain ⟨c2a, c2b⟩ := ba c1
    obtain ⟨b, b1, b2, rfl⟩ := inR_of (lo := 1) (hi := 100) c2a rfl rfl (by omega) (by omega)
    obtain ⟨a, a1, a2, rfl⟩ := inR_of (lo := 0) (hi := b) c2b rfl rfl (by omega) (by omega)
    exact ⟨0, 0, _, _, rfl, by omega, fun h H => w_flow (d := d + 99) H b1 b2 a2, fun th h T => t_flow (d := d + 101) T hL b1 b2 a2, k_flow G' b1 b2 a2⟩
  · exact ⟨1, 1, σ, O, rfl, by omega, fun h H => w_flow1 (d := d + 99) H (bf c1), fun th h T => t_flow1 (d := d + 101) T hL (bf c1), G'⟩
theorem o_unit (G : GD B σ O) (u : Int32) : OQ (run (d + 102) 18 0 [.ref 5, .int u] []) (run (d + 102) 87 0 [.ref 16, .int u] []) B σ O := by
  have G' := G.mono (Nat.le_add_right B 1000000)
  obtain ⟨hL, hV, hS, hB⟩ := G.1
  by_cases c1 : (inR u 32 126 && decide (σ.1 3 < 40)) = true
  · obtain ⟨c2a, c2b⟩ := ba c1
    obtain ⟨u, u1, u2, rfl⟩ := inR_of (lo := 32) (hi := 126) c2a rfl rfl (by omega) (by omega)
    have c3 : σ.1 3 < 40 := of_decide_eq_true c2b
    exact ⟨_, _, _, fun h H => w_unit (d := d + 101) H hL u1 u2 c3, fun th h T => t_unit (d := d + 101) T hL u1 u2 c3, k_unit G' u2 c3⟩
  · exact ⟨_, _, _, fun h H => w_unit0 (d := d + 101) H (bf c1) hS, fun th h T => t_unit0 (d := d + 101) T hL (bf c1) hS, G'⟩
theorem o_rules (G : GD B σ O) : OQ (run (d + 102) 19 0 [.ref 5, .null, .null, .null] []) (run (d + 102) 88 0 [.ref 16, .null] []) B σ O := by
  have G' := G.mono (Nat.le_add_right B 1000000)
  obtain ⟨hL, hV, hS, hB⟩ := G.1
  exact ⟨_, _, _, fun h H => w_rules (d := d + 96) H hL hV hS, fun th h T => t_rules (d := d + 99) T hL hV hS, k_rules G'⟩
theorem o_rule (G : GD B σ O) (k : Int32) : OQ (run (d + 102) 20 0 [.ref 5, .int k] []) (run (d + 102) 92 0 [.ref 16, .int k] []) B σ O := by
  have G' := G.mono (Nat.le_add_right B 1000000)
  obtain ⟨hL, hV, hS, hB⟩ := G.1
  by_cases c1 : inR k 0 3 = true
  · obtain ⟨k, k1, k2, rfl⟩ := inR_of (lo := 0) (hi := 3) c1 rfl rfl (by omega) (by omega)
    exact ⟨_, _, _, fun h H => w_rule (d := d + 101) H hL k2, fun th h T => t_rule (d := d + 101) T hL k2, G'⟩
  · exact ⟨_, _, _, fun h H => w_rule0 (d := d + 101) H (bf c1), fun th h T => t_rule0 (d := d + 101) T hL (bf c1), G'⟩
theorem o_count (G : GD B σ O) (w : Int32) : OQ (run (d + 102) 22 0 [.ref 5, .int w] []) (run (d + 102) 103 0 [.ref 16, .int w] []) B σ O := by
  have G' := G.mono (Nat.le_add_right B 1000000)
  exact ⟨_, _, _, fun h H => w_count (d := d + 101) H G.2.2.1 w, fun th h T => t_count (d := d + 102) T G.1.1 w, G'⟩
end OPS

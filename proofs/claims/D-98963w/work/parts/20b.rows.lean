/-! THE PURE LAW, 2: a row's cells, one by one (printed by mk20.py) -/
set_option maxRecDepth 100000
theorem RowAt.q {ρ : Row} {a : Nat → Int32} (h : RowAt ρ a) {x : Nat} {v : Int32} (hv : v = nI x) : RowAt ((x, ρ.1.2), ρ.2) (va_up a 0 v) := by
  subst hv
  obtain ⟨⟨h0, h1, h2, h3, h4⟩, h5, ⟨h6, h7, h8⟩, hc, hn, hb⟩ := h
  refine ⟨⟨va_up_s, (va_up_n (by omega)).trans h1, (va_up_n (by omega)).trans h2, (va_up_n (by omega)).trans h3, (va_up_n (by omega)).trans h4⟩, (va_up_n (by omega)).trans h5, ⟨(va_up_n (by omega)).trans h6, (va_up_n (by omega)).trans h7, (va_up_n (by omega)).trans h8⟩, fun c hk => ?_, (va_up_n (by omega)).trans hn, fun j e he => ?_⟩
  · rw [va_up_n (by omega), va_up_n (by omega), va_up_n (by omega)]; exact hc c hk
  · rw [va_up_n (by omega), va_up_n (by omega), va_up_n (by omega), va_up_n (by omega)]; exact hb j e he
theorem RowB.q {ρ : Row} {b : Nat → Int32} (h : RowB ρ b) {x : Nat} {v : Int32} (hv : v = nI x) : RowB ((x, ρ.1.2), ρ.2) (va_up b 8 v) := by
  subst hv
  obtain ⟨⟨h0, h1, h2, h3, h4⟩, h5, ⟨h6, h7, h8⟩, hc, hn⟩ := h
  refine ⟨⟨va_up_s, (va_up_n (by omega)).trans h1, (va_up_n (by omega)).trans h2, (va_up_n (by omega)).trans h3, (va_up_n (by omega)).trans h4⟩, (va_up_n (by omega)).trans h5, ⟨(va_up_n (by omega)).trans h6, (va_up_n (by omega)).trans h7, (va_up_n (by omega)).trans h8⟩, fun c hk => ?_, (va_up_n (by omega)).trans hn⟩
  · rw [va_up_n (by omega), va_up_n (by omega), va_up_n (by omega)]; exact hc c hk
theorem RowAt.f {ρ : Row} {a : Nat → Int32} (h : RowAt ρ a) {x : Nat} {v : Int32} (hv : v = nI x) : RowAt ((ρ.1.1, x, ρ.1.2.2), ρ.2) (va_up a 1 v) := by
  subst hv
  obtain ⟨⟨h0, h1, h2, h3, h4⟩, h5, ⟨h6, h7, h8⟩, hc, hn, hb⟩ := h
  refine ⟨⟨(va_up_n (by omega)).trans h0, va_up_s, (va_up_n (by omega)).trans h2, (va_up_n (by omega)).trans h3, (va_up_n (by omega)).trans h4⟩, (va_up_n (by omega)).trans h5, ⟨(va_up_n (by omega)).trans h6, (va_up_n (by omega)).trans h7, (va_up_n (by omega)).trans h8⟩, fun c hk => ?_, (va_up_n (by omega)).trans hn, fun j e he => ?_⟩
  · rw [va_up_n (by omega), va_up_n (by omega), va_up_n (by omega)]; exact hc c hk
  · rw [va_up_n (by omega), va_up_n (by omega), va_up_n (by omega), va_up_n (by omega)]; exact hb j e he
theorem RowB.f {ρ : Row} {b : Nat → Int32} (h : RowB ρ b) {x : Nat} {v : Int32} (hv : v = nI x) : RowB ((ρ.1.1, x, ρ.1.2.2), ρ.2) (va_up b 9 v) := by
  subst hv
  obtain ⟨⟨h0, h1, h2, h3, h4⟩, h5, ⟨h6, h7, h8⟩, hc, hn⟩ := h
  refine ⟨⟨(va_up_n (by omega)).trans h0, va_up_s, (va_up_n (by omega)).trans h2, (va_up_n (by omega)).trans h3, (va_up_n (by omega)).trans h4⟩, (va_up_n (by omega)).trans h5, ⟨(va_up_n (by omega)).trans h6, (va_up_n (by omega)).trans h7, (va_up_n (by omega)).trans h8⟩, fun c hk => ?_, (va_up_n (by omega)).trans hn⟩
  · rw [va_up_n (by omega), va_up_n (by omega), va_up_n (by omega)]; exact hc c hk
theorem RowAt.g {ρ : Row} {a : Nat → Int32} (h : RowAt ρ a) {x : Nat} {v : Int32} (hv : v = nI x) : RowAt ((ρ.1.1, ρ.1.2.1, x, ρ.1.2.2.2), ρ.2) (va_up a 2 v) := by
  subst hv
  obtain ⟨⟨h0, h1, h2, h3, h4⟩, h5, ⟨h6, h7, h8⟩, hc, hn, hb⟩ := h
  refine ⟨⟨(va_up_n (by omega)).trans h0, (va_up_n (by omega)).trans h1, va_up_s, (va_up_n (by omega)).trans h3, (va_up_n (by omega)).trans h4⟩, (va_up_n (by omega)).trans h5, ⟨(va_up_n (by omega)).trans h6, (va_up_n (by omega)).trans h7, (va_up_n (by omega)).trans h8⟩, fun c hk => ?_, (va_up_n (by omega)).trans hn, fun j e he => ?_⟩
  · rw [va_up_n (by omega), va_up_n (by omega), va_up_n (by omega)]; exact hc c hk
  · rw [va_up_n (by omega), va_up_n (by omega), va_up_n (by omega), va_up_n (by omega)]; exact hb j e he
theorem RowB.g {ρ : Row} {b : Nat → Int32} (h : RowB ρ b) {x : Nat} {v : Int32} (hv : v = nI x) : RowB ((ρ.1.1, ρ.1.2.1, x, ρ.1.2.2.2), ρ.2) (va_up b 10 v) := by
  subst hv
  obtain ⟨⟨h0, h1, h2, h3, h4⟩, h5, ⟨h6, h7, h8⟩, hc, hn⟩ := h
  refine ⟨⟨(va_up_n (by omega)).trans h0, (va_up_n (by omega)).trans h1, va_up_s, (va_up_n (by omega)).trans h3, (va_up_n (by omega)).trans h4⟩, (va_up_n (by omega)).trans h5, ⟨(va_up_n (by omega)).trans h6, (va_up_n (by omega)).trans h7, (va_up_n (by omega)).trans h8⟩, fun c hk => ?_, (va_up_n (by omega)).trans hn⟩
  · rw [va_up_n (by omega), va_up_n (by omega), va_up_n (by omega)]; exact hc c hk
theorem RowAt.h {ρ : Row} {a : Nat → Int32} (h : RowAt ρ a) {x : Nat} {v : Int32} (hv : v = nI x) : RowAt ((ρ.1.1, ρ.1.2.1, ρ.1.2.2.1, x, ρ.1.2.2.2.2), ρ.2) (va_up a 3 v) := by
  subst hv
  obtain ⟨⟨h0, h1, h2, h3, h4⟩, h5, ⟨h6, h7, h8⟩, hc, hn, hb⟩ := h
  refine ⟨⟨(va_up_n (by omega)).trans h0, (va_up_n (by omega)).trans h1, (va_up_n (by omega)).trans h2, va_up_s, (va_up_n (by omega)).trans h4⟩, (va_up_n (by omega)).trans h5, ⟨(va_up_n (by omega)).trans h6, (va_up_n (by omega)).trans h7, (va_up_n (by omega)).trans h8⟩, fun c hk => ?_, (va_up_n (by omega)).trans hn, fun j e he => ?_⟩
  · rw [va_up_n (by omega), va_up_n (by omega), va_up_n (by omega)]; exact hc c hk
  · rw [va_up_n (by omega), va_up_n (by omega), va_up_n (by omega), va_up_n (by omega)]; exact hb j e he
theorem RowB.h {ρ : Row} {b : Nat → Int32} (h : RowB ρ b) {x : Nat} {v : Int32} (hv : v = nI x) : RowB ((ρ.1.1, ρ.1.2.1, ρ.1.2.2.1, x, ρ.1.2.2.2.2), ρ.2) (va_up b 11 v) := by
  subst hv
  obtain ⟨⟨h0, h1, h2, h3, h4⟩, h5, ⟨h6, h7, h8⟩, hc, hn⟩ := h
  refine ⟨⟨(va_up_n (by omega)).trans h0, (va_up_n (by omega)).trans h1, (va_up_n (by omega)).trans h2, va_up_s, (va_up_n (by omega)).trans h4⟩, (va_up_n (by omega)).trans h5, ⟨(va_up_n (by omega)).trans h6, (va_up_n (by omega)).trans h7, (va_up_n (by omega)).trans h8⟩, fun c hk => ?_, (va_up_n (by omega)).trans hn⟩
  · rw [va_up_n (by omega), va_up_n (by omega), va_up_n (by omega)]; exact hc c hk
theorem RowAt.d {ρ : Row} {a : Nat → Int32} (h : RowAt ρ a) {x : Nat} {v : Int32} (hv : v = nI x) : RowAt ((ρ.1.1, ρ.1.2.1, ρ.1.2.2.1, ρ.1.2.2.2.1, x), ρ.2) (va_up a 4 v) := by
  subst hv
  obtain ⟨⟨h0, h1, h2, h3, h4⟩, h5, ⟨h6, h7, h8⟩, hc, hn, hb⟩ := h
  refine ⟨⟨(va_up_n (by omega)).trans h0, (va_up_n (by omega)).trans h1, (va_up_n (by omega)).trans h2, (va_up_n (by omega)).trans h3, va_up_s⟩, (va_up_n (by omega)).trans h5, ⟨(va_up_n (by omega)).trans h6, (va_up_n (by omega)).trans h7, (va_up_n (by omega)).trans h8⟩, fun c hk => ?_, (va_up_n (by omega)).trans hn, fun j e he => ?_⟩
  · rw [va_up_n (by omega), va_up_n (by omega), va_up_n (by omega)]; exact hc c hk
  · rw [va_up_n (by omega), va_up_n (by omega), va_up_n (by omega), va_up_n (by omega)]; exact hb j e he
theorem RowB.d {ρ : Row} {b : Nat → Int32} (h : RowB ρ b) {x : Nat} {v : Int32} (hv : v = nI x) : RowB ((ρ.1.1, ρ.1.2.1, ρ.1.2.2.1, ρ.1.2.2.2.1, x), ρ.2) (va_up b 12 v) := by
  subst hv
  obtain ⟨⟨h0, h1, h2, h3, h4⟩, h5, ⟨h6, h7, h8⟩, hc, hn⟩ := h
  refine ⟨⟨(va_up_n (by omega)).trans h0, (va_up_n (by omega)).trans h1, (va_up_n (by omega)).trans h2, (va_up_n (by omega)).trans h3, va_up_s⟩, (va_up_n (by omega)).trans h5, ⟨(va_up_n (by omega)).trans h6, (va_up_n (by omega)).trans h7, (va_up_n (by omega)).trans h8⟩, fun c hk => ?_, (va_up_n (by omega)).trans hn⟩
  · rw [va_up_n (by omega), va_up_n (by omega), va_up_n (by omega)]; exact hc c hk
theorem RowAt.ct {ρ : Row} {a : Nat → Int32} (h : RowAt ρ a) {x : Option Nat} {v : Int32} (hv : v = oN x) : RowAt (ρ.1, x, ρ.2.2) (va_up a 5 v) := by
  subst hv
  obtain ⟨⟨h0, h1, h2, h3, h4⟩, h5, ⟨h6, h7, h8⟩, hc, hn, hb⟩ := h
  refine ⟨⟨(va_up_n (by omega)).trans h0, (va_up_n (by omega)).trans h1, (va_up_n (by omega)).trans h2, (va_up_n (by omega)).trans h3, (va_up_n (by omega)).trans h4⟩, va_up_s, ⟨(va_up_n (by omega)).trans h6, (va_up_n (by omega)).trans h7, (va_up_n (by omega)).trans h8⟩, fun c hk => ?_, (va_up_n (by omega)).trans hn, fun j e he => ?_⟩
  · rw [va_up_n (by omega), va_up_n (by omega), va_up_n (by omega)]; exact hc c hk
  · rw [va_up_n (by omega), va_up_n (by omega), va_up_n (by omega), va_up_n (by omega)]; exact hb j e he
theorem RowB.ct {ρ : Row} {b : Nat → Int32} (h : RowB ρ b) {x : Option Nat} {v : Int32} (hv : v = oN x) : RowB (ρ.1, x, ρ.2.2) (va_up b 13 v) := by
  subst hv
  obtain ⟨⟨h0, h1, h2, h3, h4⟩, h5, ⟨h6, h7, h8⟩, hc, hn⟩ := h
  refine ⟨⟨(va_up_n (by omega)).trans h0, (va_up_n (by omega)).trans h1, (va_up_n (by omega)).trans h2, (va_up_n (by omega)).trans h3, (va_up_n (by omega)).trans h4⟩, va_up_s, ⟨(va_up_n (by omega)).trans h6, (va_up_n (by omega)).trans h7, (va_up_n (by omega)).trans h8⟩, fun c hk => ?_, (va_up_n (by omega)).trans hn⟩
  · rw [va_up_n (by omega), va_up_n (by omega), va_up_n (by omega)]; exact hc c hk
theorem RowAt.hd {ρ : Row} {a : Nat → Int32} (h : RowAt ρ a) {x : Nat} {v : Int32} (hv : v = nI x) : RowAt (ρ.1, ρ.2.1, (x, ρ.2.2.1.2), ρ.2.2.2) (va_up a 6 v) := by
  subst hv
  obtain ⟨⟨h0, h1, h2, h3, h4⟩, h5, ⟨h6, h7, h8⟩, hc, hn, hb⟩ := h
  refine ⟨⟨(va_up_n (by omega)).trans h0, (va_up_n (by omega)).trans h1, (va_up_n (by omega)).trans h2, (va_up_n (by omega)).trans h3, (va_up_n (by omega)).trans h4⟩, (va_up_n (by omega)).trans h5, ⟨va_up_s, (va_up_n (by omega)).trans h7, (va_up_n (by omega)).trans h8⟩, fun c hk => ?_, (va_up_n (by omega)).trans hn, fun j e he => ?_⟩
  · rw [va_up_n (by omega), va_up_n (by omega), va_up_n (by omega)]; exact hc c hk
  · rw [va_up_n (by omega), va_up_n (by omega), va_up_n (by omega), va_up_n (by omega)]; exact hb j e he
theorem RowB.hd {ρ : Row} {b : Nat → Int32} (h : RowB ρ b) {x : Nat} {v : Int32} (hv : v = nI x) : RowB (ρ.1, ρ.2.1, (x, ρ.2.2.1.2), ρ.2.2.2) (va_up b 14 v) := by
  subst hv
  obtain ⟨⟨h0, h1, h2, h3, h4⟩, h5, ⟨h6, h7, h8⟩, hc, hn⟩ := h
  refine ⟨⟨(va_up_n (by omega)).trans h0, (va_up_n (by omega)).trans h1, (va_up_n (by omega)).trans h2, (va_up_n (by omega)).trans h3, (va_up_n (by omega)).trans h4⟩, (va_up_n (by omega)).trans h5, ⟨va_up_s, (va_up_n (by omega)).trans h7, (va_up_n (by omega)).trans h8⟩, fun c hk => ?_, (va_up_n (by omega)).trans hn⟩
  · rw [va_up_n (by omega), va_up_n (by omega), va_up_n (by omega)]; exact hc c hk
theorem RowAt.lw {ρ : Row} {a : Nat → Int32} (h : RowAt ρ a) {x : Nat} {v : Int32} (hv : v = nI x) : RowAt (ρ.1, ρ.2.1, (ρ.2.2.1.1, x, ρ.2.2.1.2.2), ρ.2.2.2) (va_up a 7 v) := by
  subst hv
  obtain ⟨⟨h0, h1, h2, h3, h4⟩, h5, ⟨h6, h7, h8⟩, hc, hn, hb⟩ := h
  refine ⟨⟨(va_up_n (by omega)).trans h0, (va_up_n (by omega)).trans h1, (va_up_n (by omega)).trans h2, (va_up_n (by omega)).trans h3, (va_up_n (by omega)).trans h4⟩, (va_up_n (by omega)).trans h5, ⟨(va_up_n (by omega)).trans h6, va_up_s, (va_up_n (by omega)).trans h8⟩, fun c hk => ?_, (va_up_n (by omega)).trans hn, fun j e he => ?_⟩
  · rw [va_up_n (by omega), va_up_n (by omega), va_up_n (by omega)]; exact hc c hk
  · rw [va_up_n (by omega), va_up_n (by omega), va_up_n (by omega), va_up_n (by omega)]; exact hb j e he
theorem RowB.lw {ρ : Row} {b : Nat → Int32} (h : RowB ρ b) {x : Nat} {v : Int32} (hv : v = nI x) : RowB (ρ.1, ρ.2.1, (ρ.2.2.1.1, x, ρ.2.2.1.2.2), ρ.2.2.2) (va_up b 15 v) := by
  subst hv
  obtain ⟨⟨h0, h1, h2, h3, h4⟩, h5, ⟨h6, h7, h8⟩, hc, hn⟩ := h
  refine ⟨⟨(va_up_n (by omega)).trans h0, (va_up_n (by omega)).trans h1, (va_up_n (by omega)).trans h2, (va_up_n (by omega)).trans h3, (va_up_n (by omega)).trans h4⟩, (va_up_n (by omega)).trans h5, ⟨(va_up_n (by omega)).trans h6, va_up_s, (va_up_n (by omega)).trans h8⟩, fun c hk => ?_, (va_up_n (by omega)).trans hn⟩
  · rw [va_up_n (by omega), va_up_n (by omega), va_up_n (by omega)]; exact hc c hk
theorem RowAt.dl {ρ : Row} {a : Nat → Int32} (h : RowAt ρ a) {x : Nat} {v : Int32} (hv : v = nI x) : RowAt (ρ.1, ρ.2.1, (ρ.2.2.1.1, ρ.2.2.1.2.1, x), ρ.2.2.2) (va_up a 8 v) := by
  subst hv
  obtain ⟨⟨h0, h1, h2, h3, h4⟩, h5, ⟨h6, h7, h8⟩, hc, hn, hb⟩ := h
  refine ⟨⟨(va_up_n (by omega)).trans h0, (va_up_n (by omega)).trans h1, (va_up_n (by omega)).trans h2, (va_up_n (by omega)).trans h3, (va_up_n (by omega)).trans h4⟩, (va_up_n (by omega)).trans h5, ⟨(va_up_n (by omega)).trans h6, (va_up_n (by omega)).trans h7, va_up_s⟩, fun c hk => ?_, (va_up_n (by omega)).trans hn, fun j e he => ?_⟩
  · rw [va_up_n (by omega), va_up_n (by omega), va_up_n (by omega)]; exact hc c hk
  · rw [va_up_n (by omega), va_up_n (by omega), va_up_n (by omega), va_up_n (by omega)]; exact hb j e he
theorem RowB.dl {ρ : Row} {b : Nat → Int32} (h : RowB ρ b) {x : Nat} {v : Int32} (hv : v = nI x) : RowB (ρ.1, ρ.2.1, (ρ.2.2.1.1, ρ.2.2.1.2.1, x), ρ.2.2.2) (va_up b 16 v) := by
  subst hv
  obtain ⟨⟨h0, h1, h2, h3, h4⟩, h5, ⟨h6, h7, h8⟩, hc, hn⟩ := h
  refine ⟨⟨(va_up_n (by omega)).trans h0, (va_up_n (by omega)).trans h1, (va_up_n (by omega)).trans h2, (va_up_n (by omega)).trans h3, (va_up_n (by omega)).trans h4⟩, (va_up_n (by omega)).trans h5, ⟨(va_up_n (by omega)).trans h6, (va_up_n (by omega)).trans h7, va_up_s⟩, fun c hk => ?_, (va_up_n (by omega)).trans hn⟩
  · rw [va_up_n (by omega), va_up_n (by omega), va_up_n (by omega)]; exact hc c hk
theorem RowAt.how {ρ : Row} {a : Nat → Int32} (h : RowAt ρ a) {k x i : Nat} {v : Int32} (hk : k < 8) (hi : i = 9 + k) (hv : v = nI x) : RowAt (ρ.1, ρ.2.1, ρ.2.2.1, va_up ρ.2.2.2.1 k (x, (ρ.2.2.2.1 k).2), ρ.2.2.2.2) (va_up a i v) := by
  subst hv
  subst hi
  obtain ⟨⟨h0, h1, h2, h3, h4⟩, h5, ⟨h6, h7, h8⟩, hc, hn, hb⟩ := h
  refine ⟨⟨(va_up_n (by omega)).trans h0, (va_up_n (by omega)).trans h1, (va_up_n (by omega)).trans h2, (va_up_n (by omega)).trans h3, (va_up_n (by omega)).trans h4⟩, (va_up_n (by omega)).trans h5, ⟨(va_up_n (by omega)).trans h6, (va_up_n (by omega)).trans h7, (va_up_n (by omega)).trans h8⟩, fun c hkc => ?_, (va_up_n (by omega)).trans hn, fun j e he => ?_⟩
  · obtain ⟨c1, c2, c3⟩ := hc c hkc
    dsimp only
    by_cases e : c = k
    · subst e
      rw [va_up_s (f := ρ.2.2.2.1)]
      exact ⟨va_up_s, (va_up_n (by omega)).trans c2, (va_up_n (by omega)).trans c3⟩
    · rw [va_up_n (f := ρ.2.2.2.1) e]
      exact ⟨(va_up_n (by omega)).trans c1, (va_up_n (by omega)).trans c2, (va_up_n (by omega)).trans c3⟩
  · rw [va_up_n (by omega), va_up_n (by omega), va_up_n (by omega), va_up_n (by omega)]; exact hb j e he
theorem RowB.how {ρ : Row} {b : Nat → Int32} (h : RowB ρ b) {k x i : Nat} {v : Int32} (hk : k < 8) (hi : i = 24 + 7 * k) (hv : v = nI x) : RowB (ρ.1, ρ.2.1, ρ.2.2.1, va_up ρ.2.2.2.1 k (x, (ρ.2.2.2.1 k).2), ρ.2.2.2.2) (va_up b i v) := by
  subst hv
  subst hi
  obtain ⟨⟨h0, h1, h2, h3, h4⟩, h5, ⟨h6, h7, h8⟩, hc, hn⟩ := h
  refine ⟨⟨(va_up_n (by omega)).trans h0, (va_up_n (by omega)).trans h1, (va_up_n (by omega)).trans h2, (va_up_n (by omega)).trans h3, (va_up_n (by omega)).trans h4⟩, (va_up_n (by omega)).trans h5, ⟨(va_up_n (by omega)).trans h6, (va_up_n (by omega)).trans h7, (va_up_n (by omega)).trans h8⟩, fun c hkc => ?_, (va_up_n (by omega)).trans hn⟩
  · obtain ⟨c1, c2, c3⟩ := hc c hkc
    dsimp only
    by_cases e : c = k
    · subst e
      rw [va_up_s (f := ρ.2.2.2.1)]
      exact ⟨va_up_s, (va_up_n (by omega)).trans c2, (va_up_n (by omega)).trans c3⟩
    · rw [va_up_n (f := ρ.2.2.2.1) e]
      exact ⟨(va_up_n (by omega)).trans c1, (va_up_n (by omega)).trans c2, (va_up_n (by omega)).trans c3⟩
theorem RowAt.sen {ρ : Row} {a : Nat → Int32} (h : RowAt ρ a) {k x i : Nat} {v : Int32} (hk : k < 8) (hi : i = 17 + k) (hv : v = nI x) : RowAt (ρ.1, ρ.2.1, ρ.2.2.1, va_up ρ.2.2.2.1 k ((ρ.2.2.2.1 k).1, x, (ρ.2.2.2.1 k).2.2), ρ.2.2.2.2) (va_up a i v) := by
  subst hv
  subst hi
  obtain ⟨⟨h0, h1, h2, h3, h4⟩, h5, ⟨h6, h7, h8⟩, hc, hn, hb⟩ := h
  refine ⟨⟨(va_up_n (by omega)).trans h0, (va_up_n (by omega)).trans h1, (va_up_n (by omega)).trans h2, (va_up_n (by omega)).trans h3, (va_up_n (by omega)).trans h4⟩, (va_up_n (by omega)).trans h5, ⟨(va_up_n (by omega)).trans h6, (va_up_n (by omega)).trans h7, (va_up_n (by omega)).trans h8⟩, fun c hkc => ?_, (va_up_n (by omega)).trans hn, fun j e he => ?_⟩
  · obtain ⟨c1, c2, c3⟩ := hc c hkc
    dsimp only
    by_cases e : c = k
    · subst e
      rw [va_up_s (f := ρ.2.2.2.1)]
      exact ⟨(va_up_n (by omega)).trans c1, va_up_s, (va_up_n (by omega)).trans c3⟩
    · rw [va_up_n (f := ρ.2.2.2.1) e]
      exact ⟨(va_up_n (by omega)).trans c1, (va_up_n (by omega)).trans c2, (va_up_n (by omega)).trans c3⟩
  · rw [va_up_n (by omega), va_up_n (by omega), va_up_n (by omega), va_up_n (by omega)]; exact hb j e he
theorem RowB.sen {ρ : Row} {b : Nat → Int32} (h : RowB ρ b) {k x i : Nat} {v : Int32} (hk : k < 8) (hi : i = 25 + 7 * k) (hv : v = nI x) : RowB (ρ.1, ρ.2.1, ρ.2.2.1, va_up ρ.2.2.2.1 k ((ρ.2.2.2.1 k).1, x, (ρ.2.2.2.1 k).2.2), ρ.2.2.2.2) (va_up b i v) := by
  subst hv
  subst hi
  obtain ⟨⟨h0, h1, h2, h3, h4⟩, h5, ⟨h6, h7, h8⟩, hc, hn⟩ := h
  refine ⟨⟨(va_up_n (by omega)).trans h0, (va_up_n (by omega)).trans h1, (va_up_n (by omega)).trans h2, (va_up_n (by omega)).trans h3, (va_up_n (by omega)).trans h4⟩, (va_up_n (by omega)).trans h5, ⟨(va_up_n (by omega)).trans h6, (va_up_n (by omega)).trans h7, (va_up_n (by omega)).trans h8⟩, fun c hkc => ?_, (va_up_n (by omega)).trans hn⟩
  · obtain ⟨c1, c2, c3⟩ := hc c hkc
    dsimp only
    by_cases e : c = k
    · subst e
      rw [va_up_s (f := ρ.2.2.2.1)]
      exact ⟨(va_up_n (by omega)).trans c1, va_up_s, (va_up_n (by omega)).trans c3⟩
    · rw [va_up_n (f := ρ.2.2.2.1) e]
      exact ⟨(va_up_n (by omega)).trans c1, (va_up_n (by omega)).trans c2, (va_up_n (by omega)).trans c3⟩
theorem RowAt.app {ρ : Row} {a : Nat → Int32} (h : RowAt ρ a) {k x i : Nat} {v : Int32} (hk : k < 8) (hi : i = 25 + k) (hv : v = nI x) : RowAt (ρ.1, ρ.2.1, ρ.2.2.1, va_up ρ.2.2.2.1 k ((ρ.2.2.2.1 k).1, (ρ.2.2.2.1 k).2.1, x), ρ.2.2.2.2) (va_up a i v) := by
  subst hv
  subst hi
  obtain ⟨⟨h0, h1, h2, h3, h4⟩, h5, ⟨h6, h7, h8⟩, hc, hn, hb⟩ := h
  refine ⟨⟨(va_up_n (by omega)).trans h0, (va_up_n (by omega)).trans h1, (va_up_n (by omega)).trans h2, (va_up_n (by omega)).trans h3, (va_up_n (by omega)).trans h4⟩, (va_up_n (by omega)).trans h5, ⟨(va_up_n (by omega)).trans h6, (va_up_n (by omega)).trans h7, (va_up_n (by omega)).trans h8⟩, fun c hkc => ?_, (va_up_n (by omega)).trans hn, fun j e he => ?_⟩
  · obtain ⟨c1, c2, c3⟩ := hc c hkc
    dsimp only
    by_cases e : c = k
    · subst e
      rw [va_up_s (f := ρ.2.2.2.1)]
      exact ⟨(va_up_n (by omega)).trans c1, (va_up_n (by omega)).trans c2, va_up_s⟩
    · rw [va_up_n (f := ρ.2.2.2.1) e]
      exact ⟨(va_up_n (by omega)).trans c1, (va_up_n (by omega)).trans c2, (va_up_n (by omega)).trans c3⟩
  · rw [va_up_n (by omega), va_up_n (by omega), va_up_n (by omega), va_up_n (by omega)]; exact hb j e he
theorem RowB.app {ρ : Row} {b : Nat → Int32} (h : RowB ρ b) {k x i : Nat} {v : Int32} (hk : k < 8) (hi : i = 26 + 7 * k) (hv : v = nI x) : RowB (ρ.1, ρ.2.1, ρ.2.2.1, va_up ρ.2.2.2.1 k ((ρ.2.2.2.1 k).1, (ρ.2.2.2.1 k).2.1, x), ρ.2.2.2.2) (va_up b i v) := by
  subst hv
  subst hi
  obtain ⟨⟨h0, h1, h2, h3, h4⟩, h5, ⟨h6, h7, h8⟩, hc, hn⟩ := h
  refine ⟨⟨(va_up_n (by omega)).trans h0, (va_up_n (by omega)).trans h1, (va_up_n (by omega)).trans h2, (va_up_n (by omega)).trans h3, (va_up_n (by omega)).trans h4⟩, (va_up_n (by omega)).trans h5, ⟨(va_up_n (by omega)).trans h6, (va_up_n (by omega)).trans h7, (va_up_n (by omega)).trans h8⟩, fun c hkc => ?_, (va_up_n (by omega)).trans hn⟩
  · obtain ⟨c1, c2, c3⟩ := hc c hkc
    dsimp only
    by_cases e : c = k
    · subst e
      rw [va_up_s (f := ρ.2.2.2.1)]
      exact ⟨(va_up_n (by omega)).trans c1, (va_up_n (by omega)).trans c2, va_up_s⟩
    · rw [va_up_n (f := ρ.2.2.2.1) e]
      exact ⟨(va_up_n (by omega)).trans c1, (va_up_n (by omega)).trans c2, (va_up_n (by omega)).trans c3⟩
theorem StepB.cong {x y : Nat} {s : Nat × Row} {b b' : Nat → Int32} (h : StepB x s b) (hf : ∀ j, j < 35 → b' (y + j) = b (x + j)) : StepB y s b' := by
  obtain ⟨h0, ⟨a0, a1, a2, a3, a4⟩, h5, ⟨h6, h7, h8⟩, h9, hc⟩ := h
  refine ⟨?_, ⟨?_, ?_, ?_, ?_, ?_⟩, ?_, ⟨?_, ?_, ?_⟩, ?_, fun c hk => ?_⟩
  · exact (hf 0 (by omega)).trans h0
  · exact (hf 1 (by omega)).trans a0
  · exact (hf 2 (by omega)).trans a1
  · exact (hf 3 (by omega)).trans a2
  · exact (hf 4 (by omega)).trans a3
  · exact (hf 5 (by omega)).trans a4
  · exact (hf 6 (by omega)).trans h5
  · exact (hf 7 (by omega)).trans h6
  · exact (hf 8 (by omega)).trans h7
  · exact (hf 9 (by omega)).trans h8
  · exact (hf 10 (by omega)).trans h9
  · obtain ⟨c1, c2, c3⟩ := hc c hk
    refine ⟨?_, ?_, ?_⟩
    · rw [show y + 11 + 3 * c = y + (11 + 3 * c) by omega, hf _ (by omega), ← c1]; congr 1; omega
    · rw [show y + 11 + 3 * c + 1 = y + (11 + 3 * c + 1) by omega, hf _ (by omega), ← c2]; congr 1; omega
    · rw [show y + 11 + 3 * c + 2 = y + (11 + 3 * c + 2) by omega, hf _ (by omega), ← c3]; congr 1; omega
/-- cells of the model's row that are not the row's that changes -/
def bOth (i : Nat) : Prop := i < 8 ∨ (76 ≤ i ∧ i < 1182) ∨ (20 ≤ i ∧ i < 76 ∧ (i - 20) % 7 < 4)
theorem SA.row {σ : Sta} {A A' : QA} {la : Nat} {ρ : Row} (h : SA σ A la) (hr : RowAt ρ (A' (la + 1))) (hf : ∀ l, l ≠ la + 1 → la ≤ l → l < la + 80 → A' l = A l) (hk : SOK σ) : SA (σ.1, σ.2.1, ρ, σ.2.2.2) A' la := by
  obtain ⟨h1, h2, -, h4, h5, h6, h7⟩ := h
  obtain ⟨⟨k0, -, -⟩, -, -, ⟨k1, -, -⟩, ⟨k2, -⟩, ⟨k3, -⟩, ⟨k4, -⟩⟩ := hk
  refine ⟨?_, fun c hc => ?_, hr, fun i s hs => ?_, fun i r hi => ?_, fun i r hi => ?_, fun i r hi => ?_⟩
  · rw [hf la (by omega) (by omega) (by omega)]; exact h1
  · have hc : c < σ.1.1 := hc
    rw [hf (la + 10 + c) (by omega) (by omega) (by omega)]; exact h2 c hc
  · have hl : i < σ.2.2.2.1.length := (List.getElem?_eq_some_iff.mp hs).1
    rw [hf (la + 50 + i) (by omega) (by omega) (by omega)]; exact h4 i s hs
  · have hl : i < σ.2.2.2.2.1.length := (List.getElem?_eq_some_iff.mp hi).1
    rw [hf (la + 20 + i) (by omega) (by omega) (by omega)]; exact h5 i r hi
  · have hl : i < σ.2.2.2.2.2.1.length := (List.getElem?_eq_some_iff.mp hi).1
    rw [hf (la + 30 + i) (by omega) (by omega) (by omega)]; exact h6 i r hi
  · have hl : i < σ.2.2.2.2.2.2.length := (List.getElem?_eq_some_iff.mp hi).1
    rw [hf (la + 40 + i) (by omega) (by omega) (by omega)]; exact h7 i r hi
theorem SB.row {σ : Sta} {b b' : Nat → Int32} {ρ : Row} (h : SB σ b) (hr : RowB ρ b') (hb : BookB ρ.2.2.2.2 b') (hf : ∀ i, bOth i → b' i = b i) (hk : SOK σ) : SB (σ.1, σ.2.1, ρ, σ.2.2.2) b' := by
  obtain ⟨⟨g0, g1, g2, g3, g4, g5, g6⟩, h2, -, -, h4, h5, h6, h7⟩ := h
  obtain ⟨⟨k0, -, -⟩, -, -, ⟨k1, -, -⟩, ⟨k2, -⟩, ⟨k3, -⟩, ⟨k4, -⟩⟩ := hk
  have lo : ∀ i, i < 8 → b' i = b i := fun i h => hf i (Or.inl h)
  have mi : ∀ i, 76 ≤ i → i < 1182 → b' i = b i := fun i h h' => hf i (Or.inr (Or.inl ⟨h, h'⟩))
  have ca : ∀ i, 20 ≤ i → i < 76 → (i - 20) % 7 < 4 → b' i = b i := fun i h h' h2 => hf i (Or.inr (Or.inr ⟨h, h', h2⟩))
  refine ⟨⟨?_, ?_, ?_, ?_, ?_, ?_, ?_⟩, fun c hc => ?_, hr, hb, fun i s hs => ?_, fun i r hi => ?_, fun i r hi => ?_, fun i r hi => ?_⟩
  · rw [lo 0 (by omega)]; exact g0
  · rw [lo 1 (by omega)]; exact g1
  · rw [lo 2 (by omega)]; exact g2
  · rw [lo 3 (by omega)]; exact g3
  · rw [lo 4 (by omega)]; exact g4
  · rw [lo 5 (by omega)]; exact g5
  · rw [lo 6 (by omega)]; exact g6
  · have hc : c < σ.1.1 := hc
    rw [ca (20 + 7 * c) (by omega) (by omega) (by omega), ca (21 + 7 * c) (by omega) (by omega) (by omega), ca (22 + 7 * c) (by omega) (by omega) (by omega), ca (23 + 7 * c) (by omega) (by omega) (by omega)]
    exact h2 c hc
  · have hl := (List.getElem?_eq_some_iff.mp hs).1
    have hl : i < σ.2.2.2.1.length := hl
    refine (h4 i s hs).cong (fun j hj => ?_)
    exact mi _ (by omega) (by omega)
  · have hl : i < σ.2.2.2.2.1.length := (List.getElem?_eq_some_iff.mp hi).1
    rw [mi _ (by omega) (by omega), mi _ (by omega) (by omega), mi _ (by omega) (by omega)]; exact h5 i r hi
  · have hl : i < σ.2.2.2.2.2.1.length := (List.getElem?_eq_some_iff.mp hi).1
    rw [mi _ (by omega) (by omega), mi _ (by omega) (by omega)]; exact h6 i r hi
  · have hl : i < σ.2.2.2.2.2.2.length := (List.getElem?_eq_some_iff.mp hi).1
    rw [mi _ (by omega) (by omega), mi _ (by omega) (by omega)]; exact h7 i r hi

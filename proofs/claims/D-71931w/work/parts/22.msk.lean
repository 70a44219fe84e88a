/-! the model's cells: the object 106, its arrays 107..120 -/
def MSk (S : SmS) : Prop := sT S 106 = 11 ∧ (sP S 106 0 = some 107 ∧ sT S 107 = 100 ∧ sN S 107 = 238) ∧ (sP S 106 1 = some 108 ∧ sT S 108 = 100 ∧ sN S 108 = 238) ∧ (sP S 106 2 = some 109 ∧ sT S 109 = 100 ∧ sN S 109 = 238) ∧ (sP S 106 3 = some 110 ∧ sT S 110 = 100 ∧ sN S 110 = 476) ∧ (sP S 106 4 = some 111 ∧ sT S 111 = 102 ∧ sN S 111 = 2) ∧ (sP S 106 5 = some 112 ∧ sT S 112 = 100 ∧ sN S 112 = 160) ∧ (sP S 106 13 = some 113 ∧ sT S 113 = 100 ∧ sN S 113 = 4) ∧ (sP S 106 14 = some 114 ∧ sT S 114 = 100 ∧ sN S 114 = 2401) ∧ (sP S 106 15 = some 115 ∧ sT S 115 = 102 ∧ sN S 115 = 2401) ∧ (sP S 106 16 = some 116 ∧ sT S 116 = 102 ∧ sN S 116 = 2401) ∧ (sP S 106 18 = some 117 ∧ sT S 117 = 100 ∧ sN S 117 = 4) ∧ (sP S 106 20 = some 118 ∧ sT S 118 = 100 ∧ sN S 118 = 4) ∧ (sP S 106 21 = some 119 ∧ sT S 119 = 100 ∧ sN S 119 = 4) ∧ (sP S 106 22 = some 120 ∧ sT S 120 = 100 ∧ sN S 120 = 160)
theorem MSk_t106 {S : SmS} (h : MSk S) : sT S 106 = 11 := h.1
theorem MSk_p0 {S : SmS} (h : MSk S) : sP S 106 0 = some 107 := h.2.1.1
theorem MSk_t107 {S : SmS} (h : MSk S) : sT S 107 = 100 := h.2.1.2.1
theorem MSk_n107 {S : SmS} (h : MSk S) : sN S 107 = 238 := h.2.1.2.2
theorem MSk_p1 {S : SmS} (h : MSk S) : sP S 106 1 = some 108 := h.2.2.1.1
theorem MSk_t108 {S : SmS} (h : MSk S) : sT S 108 = 100 := h.2.2.1.2.1
theorem MSk_n108 {S : SmS} (h : MSk S) : sN S 108 = 238 := h.2.2.1.2.2
theorem MSk_p2 {S : SmS} (h : MSk S) : sP S 106 2 = some 109 := h.2.2.2.1.1
theorem MSk_t109 {S : SmS} (h : MSk S) : sT S 109 = 100 := h.2.2.2.1.2.1
theorem MSk_n109 {S : SmS} (h : MSk S) : sN S 109 = 238 := h.2.2.2.1.2.2
theorem MSk_p3 {S : SmS} (h : MSk S) : sP S 106 3 = some 110 := h.2.2.2.2.1.1
theorem MSk_t110 {S : SmS} (h : MSk S) : sT S 110 = 100 := h.2.2.2.2.1.2.1
theorem MSk_n110 {S : SmS} (h : MSk S) : sN S 110 = 476 := h.2.2.2.2.1.2.2
theorem MSk_p4 {S : SmS} (h : MSk S) : sP S 106 4 = some 111 := h.2.2.2.2.2.1.1
theorem MSk_t111 {S : SmS} (h : MSk S) : sT S 111 = 102 := h.2.2.2.2.2.1.2.1
theorem MSk_n111 {S : SmS} (h : MSk S) : sN S 111 = 2 := h.2.2.2.2.2.1.2.2
theorem MSk_p5 {S : SmS} (h : MSk S) : sP S 106 5 = some 112 := h.2.2.2.2.2.2.1.1
theorem MSk_t112 {S : SmS} (h : MSk S) : sT S 112 = 100 := h.2.2.2.2.2.2.1.2.1
theorem MSk_n112 {S : SmS} (h : MSk S) : sN S 112 = 160 := h.2.2.2.2.2.2.1.2.2
theorem MSk_p13 {S : SmS} (h : MSk S) : sP S 106 13 = some 113 := h.2.2.2.2.2.2.2.1.1
theorem MSk_t113 {S : SmS} (h : MSk S) : sT S 113 = 100 := h.2.2.2.2.2.2.2.1.2.1
theorem MSk_n113 {S : SmS} (h : MSk S) : sN S 113 = 4 := h.2.2.2.2.2.2.2.1.2.2
theorem MSk_p14 {S : SmS} (h : MSk S) : sP S 106 14 = some 114 := h.2.2.2.2.2.2.2.2.1.1
theorem MSk_t114 {S : SmS} (h : MSk S) : sT S 114 = 100 := h.2.2.2.2.2.2.2.2.1.2.1
theorem MSk_n114 {S : SmS} (h : MSk S) : sN S 114 = 2401 := h.2.2.2.2.2.2.2.2.1.2.2
theorem MSk_p15 {S : SmS} (h : MSk S) : sP S 106 15 = some 115 := h.2.2.2.2.2.2.2.2.2.1.1
theorem MSk_t115 {S : SmS} (h : MSk S) : sT S 115 = 102 := h.2.2.2.2.2.2.2.2.2.1.2.1
theorem MSk_n115 {S : SmS} (h : MSk S) : sN S 115 = 2401 := h.2.2.2.2.2.2.2.2.2.1.2.2
theorem MSk_p16 {S : SmS} (h : MSk S) : sP S 106 16 = some 116 := h.2.2.2.2.2.2.2.2.2.2.1.1
theorem MSk_t116 {S : SmS} (h : MSk S) : sT S 116 = 102 := h.2.2.2.2.2.2.2.2.2.2.1.2.1
theorem MSk_n116 {S : SmS} (h : MSk S) : sN S 116 = 2401 := h.2.2.2.2.2.2.2.2.2.2.1.2.2
theorem MSk_p18 {S : SmS} (h : MSk S) : sP S 106 18 = some 117 := h.2.2.2.2.2.2.2.2.2.2.2.1.1
theorem MSk_t117 {S : SmS} (h : MSk S) : sT S 117 = 100 := h.2.2.2.2.2.2.2.2.2.2.2.1.2.1
theorem MSk_n117 {S : SmS} (h : MSk S) : sN S 117 = 4 := h.2.2.2.2.2.2.2.2.2.2.2.1.2.2
theorem MSk_p20 {S : SmS} (h : MSk S) : sP S 106 20 = some 118 := h.2.2.2.2.2.2.2.2.2.2.2.2.1.1
theorem MSk_t118 {S : SmS} (h : MSk S) : sT S 118 = 100 := h.2.2.2.2.2.2.2.2.2.2.2.2.1.2.1
theorem MSk_n118 {S : SmS} (h : MSk S) : sN S 118 = 4 := h.2.2.2.2.2.2.2.2.2.2.2.2.1.2.2
theorem MSk_p21 {S : SmS} (h : MSk S) : sP S 106 21 = some 119 := h.2.2.2.2.2.2.2.2.2.2.2.2.2.1.1
theorem MSk_t119 {S : SmS} (h : MSk S) : sT S 119 = 100 := h.2.2.2.2.2.2.2.2.2.2.2.2.2.1.2.1
theorem MSk_n119 {S : SmS} (h : MSk S) : sN S 119 = 4 := h.2.2.2.2.2.2.2.2.2.2.2.2.2.1.2.2
theorem MSk_p22 {S : SmS} (h : MSk S) : sP S 106 22 = some 120 := h.2.2.2.2.2.2.2.2.2.2.2.2.2.2.1
theorem MSk_t120 {S : SmS} (h : MSk S) : sT S 120 = 100 := h.2.2.2.2.2.2.2.2.2.2.2.2.2.2.2.1
theorem MSk_n120 {S : SmS} (h : MSk S) : sN S 120 = 160 := h.2.2.2.2.2.2.2.2.2.2.2.2.2.2.2.2

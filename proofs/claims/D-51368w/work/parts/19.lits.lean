/-! String constants (printed by gen_lit.py) -/
def SX1_30 : List Int32 := []
set_option maxRecDepth 100000 in
theorem lsX1_30 {l : Launch} {g : kG} (S : kStart l g) : ∃ a, vk_R RX1 30 "" a g.U ∧ ∀ h : kH, kStr g h a SX1_30 := kLitP S 2313 SX1_30 q244 (by decide) (by decide +kernel)
def SX1_47 : List Int32 := [110, 111, 114, 116, 104]
set_option maxRecDepth 100000 in
theorem lsX1_47 {l : Launch} {g : kG} (S : kStart l g) : ∃ a, vk_R RX1 47 "north" a g.U ∧ ∀ h : kH, kStr g h a SX1_47 := kLitP S 2531 SX1_47 q1197 (by decide) (by decide +kernel)
def SX1_49 : List Int32 := [115, 111, 117, 116, 104]
set_option maxRecDepth 100000 in
theorem lsX1_49 {l : Launch} {g : kG} (S : kStart l g) : ∃ a, vk_R RX1 49 "south" a g.U ∧ ∀ h : kH, kStr g h a SX1_49 := kLitP S 2542 SX1_49 q1198 (by decide) (by decide +kernel)
def SX1_51 : List Int32 := [101, 97, 115, 116]
set_option maxRecDepth 100000 in
theorem lsX1_51 {l : Launch} {g : kG} (S : kStart l g) : ∃ a, vk_R RX1 51 "east" a g.U ∧ ∀ h : kH, kStr g h a SX1_51 := kLitP S 2553 SX1_51 q1199 (by decide) (by decide +kernel)
def SX1_53 : List Int32 := [119, 101, 115, 116]
set_option maxRecDepth 100000 in
theorem lsX1_53 {l : Launch} {g : kG} (S : kStart l g) : ∃ a, vk_R RX1 53 "west" a g.U ∧ ∀ h : kH, kStr g h a SX1_53 := kLitP S 2563 SX1_53 q1200 (by decide) (by decide +kernel)
def SX1_55 : List Int32 := [116, 117, 114, 110]
set_option maxRecDepth 100000 in
theorem lsX1_55 {l : Launch} {g : kG} (S : kStart l g) : ∃ a, vk_R RX1 55 "turn" a g.U ∧ ∀ h : kH, kStr g h a SX1_55 := kLitP S 2573 SX1_55 q1201 (by decide) (by decide +kernel)
def SX8_31 : List Int32 := []
set_option maxRecDepth 100000 in
theorem lsX8_31 {l : Launch} {g : kG} (S : kStart l g) : ∃ a, vk_R RX8 31 "" a g.U ∧ ∀ h : kH, kStr g h a SX8_31 := kLitP S 2614 SX8_31 q2075 (by decide) (by decide +kernel)
def SX9_24 : List Int32 := [106, 117, 110, 99, 116, 105, 111, 110]
set_option maxRecDepth 100000 in
theorem lsX9_24 {l : Launch} {g : kG} (S : kStart l g) : ∃ a, vk_R RX9 24 "junction" a g.U ∧ ∀ h : kH, kStr g h a SX9_24 := kLitP S 2621 SX9_24 q2142 (by decide) (by decide +kernel)
def SX9_50 : List Int32 := [97, 114, 109]
set_option maxRecDepth 100000 in
theorem lsX9_50 {l : Launch} {g : kG} (S : kStart l g) : ∃ a, vk_R RX9 50 "arm" a g.U ∧ ∀ h : kH, kStr g h a SX9_50 := kLitP S 2635 SX9_50 q2209 (by decide) (by decide +kernel)
def SX9_89 : List Int32 := [99, 108, 97, 115, 104]
set_option maxRecDepth 100000 in
theorem lsX9_89 {l : Launch} {g : kG} (S : kStart l g) : ∃ a, vk_R RX9 89 "clash" a g.U ∧ ∀ h : kH, kStr g h a SX9_89 := kLitP S 2644 SX9_89 q2235 (by decide) (by decide +kernel)
def SX9_91 : List Int32 := [112, 104, 97, 115, 101]
set_option maxRecDepth 100000 in
theorem lsX9_91 {l : Launch} {g : kG} (S : kStart l g) : ∃ a, vk_R RX9 91 "phase" a g.U ∧ ∀ h : kH, kStr g h a SX9_91 := kLitP S 2655 SX9_91 q2236 (by decide) (by decide +kernel)
def SX12_58 : List Int32 := [99, 111, 109, 101]
set_option maxRecDepth 100000 in
theorem lsX12_58 {l : Launch} {g : kG} (S : kStart l g) : ∃ a, vk_R RX12 58 "come" a g.U ∧ ∀ h : kH, kStr g h a SX12_58 := kLitP S 2666 SX12_58 q2445 (by decide) (by decide +kernel)
def SX12_63 : List Int32 := [116, 105, 99, 107]
set_option maxRecDepth 100000 in
theorem lsX12_63 {l : Launch} {g : kG} (S : kStart l g) : ∃ a, vk_R RX12 63 "tick" a g.U ∧ ∀ h : kH, kStr g h a SX12_63 := kLitP S 2676 SX12_63 q2447 (by decide) (by decide +kernel)
def SX12_65 : List Int32 := [99, 97, 108, 108]
set_option maxRecDepth 100000 in
theorem lsX12_65 {l : Launch} {g : kG} (S : kStart l g) : ∃ a, vk_R RX12 65 "call" a g.U ∧ ∀ h : kH, kStr g h a SX12_65 := kLitP S 2686 SX12_65 q2448 (by decide) (by decide +kernel)
def SX12_67 : List Int32 := [98, 114, 101, 97, 107]
set_option maxRecDepth 100000 in
theorem lsX12_67 {l : Launch} {g : kG} (S : kStart l g) : ∃ a, vk_R RX12 67 "break" a g.U ∧ ∀ h : kH, kStr g h a SX12_67 := kLitP S 2696 SX12_67 q2449 (by decide) (by decide +kernel)
def SX12_69 : List Int32 := [109, 101, 110, 100]
set_option maxRecDepth 100000 in
theorem lsX12_69 {l : Launch} {g : kG} (S : kStart l g) : ∃ a, vk_R RX12 69 "mend" a g.U ∧ ∀ h : kH, kStr g h a SX12_69 := kLitP S 2707 SX12_69 q2450 (by decide) (by decide +kernel)
def SX12_71 : List Int32 := [114, 117, 108, 101]
set_option maxRecDepth 100000 in
theorem lsX12_71 {l : Launch} {g : kG} (S : kStart l g) : ∃ a, vk_R RX12 71 "rule" a g.U ∧ ∀ h : kH, kStr g h a SX12_71 := kLitP S 2717 SX12_71 q2451 (by decide) (by decide +kernel)
def SX12_73 : List Int32 := [103, 97, 112]
set_option maxRecDepth 100000 in
theorem lsX12_73 {l : Launch} {g : kG} (S : kStart l g) : ∃ a, vk_R RX12 73 "gap" a g.U ∧ ∀ h : kH, kStr g h a SX12_73 := kLitP S 2727 SX12_73 q2452 (by decide) (by decide +kernel)
def SX12_75 : List Int32 := [108, 101, 97, 115, 116]
set_option maxRecDepth 100000 in
theorem lsX12_75 {l : Launch} {g : kG} (S : kStart l g) : ∃ a, vk_R RX12 75 "least" a g.U ∧ ∀ h : kH, kStr g h a SX12_75 := kLitP S 2736 SX12_75 q2453 (by decide) (by decide +kernel)
def SX12_77 : List Int32 := [109, 111, 115, 116]
set_option maxRecDepth 100000 in
theorem lsX12_77 {l : Launch} {g : kG} (S : kStart l g) : ∃ a, vk_R RX12 77 "most" a g.U ∧ ∀ h : kH, kStr g h a SX12_77 := kLitP S 2747 SX12_77 q2454 (by decide) (by decide +kernel)
def SX12_79 : List Int32 := [97, 103, 97, 105, 110]
set_option maxRecDepth 100000 in
theorem lsX12_79 {l : Launch} {g : kG} (S : kStart l g) : ∃ a, vk_R RX12 79 "again" a g.U ∧ ∀ h : kH, kStr g h a SX12_79 := kLitP S 2757 SX12_79 q2455 (by decide) (by decide +kernel)
def SX2_326 : List Int32 := [33]
set_option maxRecDepth 100000 in
theorem lsX2_326 {l : Launch} {g : kG} (S : kStart l g) : ∃ a, vk_R RX2 326 "!" a g.U ∧ ∀ h : kH, kStr g h a SX2_326 := kLitP S 2768 SX2_326 q3006 (by decide) (by decide +kernel)
def SX2_328 : List Int32 := []
set_option maxRecDepth 100000 in
theorem lsX2_328 {l : Launch} {g : kG} (S : kStart l g) : ∃ a, vk_R RX2 328 "" a g.U ∧ ∀ h : kH, kStr g h a SX2_328 := kLitP S 2775 SX2_328 q3007 (by decide) (by decide +kernel)
def SX2_334 : List Int32 := [32]
set_option maxRecDepth 100000 in
theorem lsX2_334 {l : Launch} {g : kG} (S : kStart l g) : ∃ a, vk_R RX2 334 " " a g.U ∧ ∀ h : kH, kStr g h a SX2_334 := kLitP S 2783 SX2_334 q3018 (by decide) (by decide +kernel)
def SX2_336 : List Int32 := [42]
set_option maxRecDepth 100000 in
theorem lsX2_336 {l : Launch} {g : kG} (S : kStart l g) : ∃ a, vk_R RX2 336 "*" a g.U ∧ ∀ h : kH, kStr g h a SX2_336 := kLitP S 2790 SX2_336 q3019 (by decide) (by decide +kernel)
def SX2_338 : List Int32 := [43]
set_option maxRecDepth 100000 in
theorem lsX2_338 {l : Launch} {g : kG} (S : kStart l g) : ∃ a, vk_R RX2 338 "+" a g.U ∧ ∀ h : kH, kStr g h a SX2_338 := kLitP S 2797 SX2_338 q3020 (by decide) (by decide +kernel)
def SX7_51 : List Int32 := [106, 117, 110, 99, 116, 105, 111, 110, 32, 51, 32, 50, 32, 48, 59, 32, 97, 114, 109, 32, 110, 111, 114, 116, 104, 59, 32, 97, 114, 109, 32, 115, 111, 117, 116, 104, 59, 32, 97, 114, 109, 32, 101, 97, 115, 116, 59, 32, 97, 114, 109, 32, 119, 101, 115, 116, 59, 32, 97, 114, 109, 32, 116, 117, 114, 110, 59, 32, 99, 108, 97, 115, 104, 32, 110, 111, 114, 116, 104, 32, 101, 97, 115, 116, 59, 32, 99, 108, 97, 115, 104, 32, 110, 111, 114, 116, 104, 32, 119, 101, 115, 116, 59, 32, 99, 108, 97, 115, 104, 32, 115, 111, 117, 116, 104, 32, 101, 97, 115, 116, 59, 32, 99, 108, 97, 115, 104, 32, 115, 111, 117, 116, 104, 32, 119, 101, 115, 116, 59, 32, 99, 108, 97, 115, 104, 32, 116, 117, 114, 110, 32, 115, 111, 117, 116, 104, 59, 32, 99, 108, 97, 115, 104, 32, 116, 117, 114, 110, 32, 101, 97, 115, 116, 59, 32, 99, 108, 97, 115, 104, 32, 116, 117, 114, 110, 32, 119, 101, 115, 116, 59, 32, 112, 104, 97, 115, 101, 32, 53, 32, 50, 48, 32, 110, 111, 114, 116, 104, 32, 115, 111, 117, 116, 104, 59, 32, 112, 104, 97, 115, 101, 32, 52, 32, 49, 53, 32, 101, 97, 115, 116, 32, 119, 101, 115, 116, 59, 32, 112, 104, 97, 115, 101, 32, 51, 32, 56, 32, 116, 117, 114, 110, 32, 110, 111, 114, 116, 104]
set_option maxRecDepth 100000 in
theorem lsX7_51 {l : Launch} {g : kG} (S : kStart l g) : ∃ a, vk_R RX7 51 "junction 3 2 0; arm north; arm south; arm east; arm west; arm turn; clash north east; clash north west; clash south east; clash south west; clash turn south; clash turn east; clash turn west; phase 5 20 north south; phase 4 15 east west; phase 3 8 turn north" a g.U ∧ ∀ h : kH, kStr g h a SX7_51 := kLitP S 2804 SX7_51 q3477 (by decide) (by decide +kernel)
def SX7_222 : List Int32 := [106, 117, 110, 99, 116, 105, 111, 110]
set_option maxRecDepth 100000 in
theorem lsX7_222 {l : Launch} {g : kG} (S : kStart l g) : ∃ a, vk_R RX7 222 "junction" a g.U ∧ ∀ h : kH, kStr g h a SX7_222 := kLitP S 3068 SX7_222 q3504 (by decide) (by decide +kernel)
def SX7_196 : List Int32 := [97, 114, 109]
set_option maxRecDepth 100000 in
theorem lsX7_196 {l : Launch} {g : kG} (S : kStart l g) : ∃ a, vk_R RX7 196 "arm" a g.U ∧ ∀ h : kH, kStr g h a SX7_196 := kLitP S 3083 SX7_196 q3533 (by decide) (by decide +kernel)
def SX7_230 : List Int32 := [99, 108, 97, 115, 104]
set_option maxRecDepth 100000 in
theorem lsX7_230 {l : Launch} {g : kG} (S : kStart l g) : ∃ a, vk_R RX7 230 "clash" a g.U ∧ ∀ h : kH, kStr g h a SX7_230 := kLitP S 3093 SX7_230 q3554 (by decide) (by decide +kernel)
def SX7_214 : List Int32 := [112, 104, 97, 115, 101]
set_option maxRecDepth 100000 in
theorem lsX7_214 {l : Launch} {g : kG} (S : kStart l g) : ∃ a, vk_R RX7 214 "phase" a g.U ∧ ∀ h : kH, kStr g h a SX7_214 := kLitP S 3105 SX7_214 q3567 (by decide) (by decide +kernel)
def SX7_244 : List Int32 := [99, 111, 109, 101]
set_option maxRecDepth 100000 in
theorem lsX7_244 {l : Launch} {g : kG} (S : kStart l g) : ∃ a, vk_R RX7 244 "come" a g.U ∧ ∀ h : kH, kStr g h a SX7_244 := kLitP S 3117 SX7_244 q3708 (by decide) (by decide +kernel)
def SX7_246 : List Int32 := [116, 105, 99, 107]
set_option maxRecDepth 100000 in
theorem lsX7_246 {l : Launch} {g : kG} (S : kStart l g) : ∃ a, vk_R RX7 246 "tick" a g.U ∧ ∀ h : kH, kStr g h a SX7_246 := kLitP S 3128 SX7_246 q3709 (by decide) (by decide +kernel)
def SX7_247 : List Int32 := [99, 97, 108, 108]
set_option maxRecDepth 100000 in
theorem lsX7_247 {l : Launch} {g : kG} (S : kStart l g) : ∃ a, vk_R RX7 247 "call" a g.U ∧ ∀ h : kH, kStr g h a SX7_247 := kLitP S 3139 SX7_247 q3710 (by decide) (by decide +kernel)
def SX7_249 : List Int32 := [98, 114, 101, 97, 107]
set_option maxRecDepth 100000 in
theorem lsX7_249 {l : Launch} {g : kG} (S : kStart l g) : ∃ a, vk_R RX7 249 "break" a g.U ∧ ∀ h : kH, kStr g h a SX7_249 := kLitP S 3150 SX7_249 q3711 (by decide) (by decide +kernel)
def SX7_251 : List Int32 := [109, 101, 110, 100]
set_option maxRecDepth 100000 in
theorem lsX7_251 {l : Launch} {g : kG} (S : kStart l g) : ∃ a, vk_R RX7 251 "mend" a g.U ∧ ∀ h : kH, kStr g h a SX7_251 := kLitP S 3162 SX7_251 q3712 (by decide) (by decide +kernel)
def SX7_253 : List Int32 := [114, 117, 108, 101]
set_option maxRecDepth 100000 in
theorem lsX7_253 {l : Launch} {g : kG} (S : kStart l g) : ∃ a, vk_R RX7 253 "rule" a g.U ∧ ∀ h : kH, kStr g h a SX7_253 := kLitP S 3173 SX7_253 q3713 (by decide) (by decide +kernel)
def SX7_255 : List Int32 := [103, 97, 112]
set_option maxRecDepth 100000 in
theorem lsX7_255 {l : Launch} {g : kG} (S : kStart l g) : ∃ a, vk_R RX7 255 "gap" a g.U ∧ ∀ h : kH, kStr g h a SX7_255 := kLitP S 3184 SX7_255 q3714 (by decide) (by decide +kernel)
def SX7_257 : List Int32 := [108, 101, 97, 115, 116]
set_option maxRecDepth 100000 in
theorem lsX7_257 {l : Launch} {g : kG} (S : kStart l g) : ∃ a, vk_R RX7 257 "least" a g.U ∧ ∀ h : kH, kStr g h a SX7_257 := kLitP S 3194 SX7_257 q3715 (by decide) (by decide +kernel)
def SX7_259 : List Int32 := [109, 111, 115, 116]
set_option maxRecDepth 100000 in
theorem lsX7_259 {l : Launch} {g : kG} (S : kStart l g) : ∃ a, vk_R RX7 259 "most" a g.U ∧ ∀ h : kH, kStr g h a SX7_259 := kLitP S 3206 SX7_259 q3716 (by decide) (by decide +kernel)
def SX7_261 : List Int32 := [97, 103, 97, 105, 110]
set_option maxRecDepth 100000 in
theorem lsX7_261 {l : Launch} {g : kG} (S : kStart l g) : ∃ a, vk_R RX7 261 "again" a g.U ∧ ∀ h : kH, kStr g h a SX7_261 := kLitP S 3217 SX7_261 q3717 (by decide) (by decide +kernel)

/-! the code checked (printed) -/
theorem zkall_lt (k : Nat) (h : k < 411) : zkall k = true := by
  by_cases h0 : k < 6
  · have := zka0 (k - 0) (by omega); rwa [show k - 0 + 0 = k by omega] at this
  by_cases h1 : k < 8
  · have := zka1 (k - 6) (by omega); rwa [show k - 6 + 6 = k by omega] at this
  by_cases h2 : k < 10
  · have := zka2 (k - 8) (by omega); rwa [show k - 8 + 8 = k by omega] at this
  by_cases h3 : k < 15
  · have := zka3 (k - 10) (by omega); rwa [show k - 10 + 10 = k by omega] at this
  by_cases h4 : k < 16
  · have := zka4 (k - 15) (by omega); rwa [show k - 15 + 15 = k by omega] at this
  by_cases h5 : k < 21
  · have := zka5 (k - 16) (by omega); rwa [show k - 16 + 16 = k by omega] at this
  by_cases h6 : k < 25
  · have := zka6 (k - 21) (by omega); rwa [show k - 21 + 21 = k by omega] at this
  by_cases h7 : k < 28
  · have := zka7 (k - 25) (by omega); rwa [show k - 25 + 25 = k by omega] at this
  by_cases h8 : k < 30
  · have := zka8 (k - 28) (by omega); rwa [show k - 28 + 28 = k by omega] at this
  by_cases h9 : k < 32
  · have := zka9 (k - 30) (by omega); rwa [show k - 30 + 30 = k by omega] at this
  by_cases h10 : k < 35
  · have := zka10 (k - 32) (by omega); rwa [show k - 32 + 32 = k by omega] at this
  by_cases h11 : k < 40
  · have := zka11 (k - 35) (by omega); rwa [show k - 35 + 35 = k by omega] at this
  by_cases h12 : k < 45
  · have := zka12 (k - 40) (by omega); rwa [show k - 40 + 40 = k by omega] at this
  by_cases h13 : k < 51
  · have := zka13 (k - 45) (by omega); rwa [show k - 45 + 45 = k by omega] at this
  by_cases h14 : k < 60
  · have := zka14 (k - 51) (by omega); rwa [show k - 51 + 51 = k by omega] at this
  by_cases h15 : k < 63
  · have := zka15 (k - 60) (by omega); rwa [show k - 60 + 60 = k by omega] at this
  by_cases h16 : k < 64
  · have := zka16 (k - 63) (by omega); rwa [show k - 63 + 63 = k by omega] at this
  by_cases h17 : k < 69
  · have := zka17 (k - 64) (by omega); rwa [show k - 64 + 64 = k by omega] at this
  by_cases h18 : k < 74
  · have := zka18 (k - 69) (by omega); rwa [show k - 69 + 69 = k by omega] at this
  by_cases h19 : k < 83
  · have := zka19 (k - 74) (by omega); rwa [show k - 74 + 74 = k by omega] at this
  by_cases h20 : k < 88
  · have := zka20 (k - 83) (by omega); rwa [show k - 83 + 83 = k by omega] at this
  by_cases h21 : k < 96
  · have := zka21 (k - 88) (by omega); rwa [show k - 88 + 88 = k by omega] at this
  by_cases h22 : k < 100
  · have := zka22 (k - 96) (by omega); rwa [show k - 96 + 96 = k by omega] at this
  by_cases h23 : k < 107
  · have := zka23 (k - 100) (by omega); rwa [show k - 100 + 100 = k by omega] at this
  by_cases h24 : k < 110
  · have := zka24 (k - 107) (by omega); rwa [show k - 107 + 107 = k by omega] at this
  by_cases h25 : k < 111
  · have := zka25 (k - 110) (by omega); rwa [show k - 110 + 110 = k by omega] at this
  by_cases h26 : k < 113
  · have := zka26 (k - 111) (by omega); rwa [show k - 111 + 111 = k by omega] at this
  by_cases h27 : k < 120
  · have := zka27 (k - 113) (by omega); rwa [show k - 113 + 113 = k by omega] at this
  by_cases h28 : k < 121
  · have := zka28 (k - 120) (by omega); rwa [show k - 120 + 120 = k by omega] at this
  by_cases h29 : k < 123
  · have := zka29 (k - 121) (by omega); rwa [show k - 121 + 121 = k by omega] at this
  by_cases h30 : k < 128
  · have := zka30 (k - 123) (by omega); rwa [show k - 123 + 123 = k by omega] at this
  by_cases h31 : k < 131
  · have := zka31 (k - 128) (by omega); rwa [show k - 128 + 128 = k by omega] at this
  by_cases h32 : k < 136
  · have := zka32 (k - 131) (by omega); rwa [show k - 131 + 131 = k by omega] at this
  by_cases h33 : k < 144
  · have := zka33 (k - 136) (by omega); rwa [show k - 136 + 136 = k by omega] at this
  by_cases h34 : k < 148
  · have := zka34 (k - 144) (by omega); rwa [show k - 144 + 144 = k by omega] at this
  by_cases h35 : k < 151
  · have := zka35 (k - 148) (by omega); rwa [show k - 148 + 148 = k by omega] at this
  by_cases h36 : k < 154
  · have := zka36 (k - 151) (by omega); rwa [show k - 151 + 151 = k by omega] at this
  by_cases h37 : k < 155
  · have := zka37 (k - 154) (by omega); rwa [show k - 154 + 154 = k by omega] at this
  by_cases h38 : k < 158
  · have := zka38 (k - 155) (by omega); rwa [show k - 155 + 155 = k by omega] at this
  by_cases h39 : k < 163
  · have := zka39 (k - 158) (by omega); rwa [show k - 158 + 158 = k by omega] at this
  by_cases h40 : k < 164
  · have := zka40 (k - 163) (by omega); rwa [show k - 163 + 163 = k by omega] at this
  by_cases h41 : k < 167
  · have := zka41 (k - 164) (by omega); rwa [show k - 164 + 164 = k by omega] at this
  by_cases h42 : k < 172
  · have := zka42 (k - 167) (by omega); rwa [show k - 167 + 167 = k by omega] at this
  by_cases h43 : k < 179
  · have := zka43 (k - 172) (by omega); rwa [show k - 172 + 172 = k by omega] at this
  by_cases h44 : k < 185
  · have := zka44 (k - 179) (by omega); rwa [show k - 179 + 179 = k by omega] at this
  by_cases h45 : k < 190
  · have := zka45 (k - 185) (by omega); rwa [show k - 185 + 185 = k by omega] at this
  by_cases h46 : k < 197
  · have := zka46 (k - 190) (by omega); rwa [show k - 190 + 190 = k by omega] at this
  by_cases h47 : k < 204
  · have := zka47 (k - 197) (by omega); rwa [show k - 197 + 197 = k by omega] at this
  by_cases h48 : k < 207
  · have := zka48 (k - 204) (by omega); rwa [show k - 204 + 204 = k by omega] at this
  by_cases h49 : k < 208
  · have := zka49 (k - 207) (by omega); rwa [show k - 207 + 207 = k by omega] at this
  by_cases h50 : k < 211
  · have := zka50 (k - 208) (by omega); rwa [show k - 208 + 208 = k by omega] at this
  by_cases h51 : k < 220
  · have := zka51 (k - 211) (by omega); rwa [show k - 211 + 211 = k by omega] at this
  by_cases h52 : k < 226
  · have := zka52 (k - 220) (by omega); rwa [show k - 220 + 220 = k by omega] at this
  by_cases h53 : k < 232
  · have := zka53 (k - 226) (by omega); rwa [show k - 226 + 226 = k by omega] at this
  by_cases h54 : k < 236
  · have := zka54 (k - 232) (by omega); rwa [show k - 232 + 232 = k by omega] at this
  by_cases h55 : k < 241
  · have := zka55 (k - 236) (by omega); rwa [show k - 236 + 236 = k by omega] at this
  by_cases h56 : k < 247
  · have := zka56 (k - 241) (by omega); rwa [show k - 241 + 241 = k by omega] at this
  by_cases h57 : k < 249
  · have := zka57 (k - 247) (by omega); rwa [show k - 247 + 247 = k by omega] at this
  by_cases h58 : k < 252
  · have := zka58 (k - 249) (by omega); rwa [show k - 249 + 249 = k by omega] at this
  by_cases h59 : k < 258
  · have := zka59 (k - 252) (by omega); rwa [show k - 252 + 252 = k by omega] at this
  by_cases h60 : k < 263
  · have := zka60 (k - 258) (by omega); rwa [show k - 258 + 258 = k by omega] at this
  by_cases h61 : k < 264
  · have := zka61 (k - 263) (by omega); rwa [show k - 263 + 263 = k by omega] at this
  by_cases h62 : k < 271
  · have := zka62 (k - 264) (by omega); rwa [show k - 264 + 264 = k by omega] at this
  by_cases h63 : k < 274
  · have := zka63 (k - 271) (by omega); rwa [show k - 271 + 271 = k by omega] at this
  by_cases h64 : k < 275
  · have := zka64 (k - 274) (by omega); rwa [show k - 274 + 274 = k by omega] at this
  by_cases h65 : k < 277
  · have := zka65 (k - 275) (by omega); rwa [show k - 275 + 275 = k by omega] at this
  by_cases h66 : k < 278
  · have := zka66 (k - 277) (by omega); rwa [show k - 277 + 277 = k by omega] at this
  by_cases h67 : k < 281
  · have := zka67 (k - 278) (by omega); rwa [show k - 278 + 278 = k by omega] at this
  by_cases h68 : k < 283
  · have := zka68 (k - 281) (by omega); rwa [show k - 281 + 281 = k by omega] at this
  by_cases h69 : k < 284
  · have := zka69 (k - 283) (by omega); rwa [show k - 283 + 283 = k by omega] at this
  by_cases h70 : k < 290
  · have := zka70 (k - 284) (by omega); rwa [show k - 284 + 284 = k by omega] at this
  by_cases h71 : k < 293
  · have := zka71 (k - 290) (by omega); rwa [show k - 290 + 290 = k by omega] at this
  by_cases h72 : k < 295
  · have := zka72 (k - 293) (by omega); rwa [show k - 293 + 293 = k by omega] at this
  by_cases h73 : k < 296
  · have := zka73 (k - 295) (by omega); rwa [show k - 295 + 295 = k by omega] at this
  by_cases h74 : k < 297
  · have := zka74 (k - 296) (by omega); rwa [show k - 296 + 296 = k by omega] at this
  by_cases h75 : k < 300
  · have := zka75 (k - 297) (by omega); rwa [show k - 297 + 297 = k by omega] at this
  by_cases h76 : k < 303
  · have := zka76 (k - 300) (by omega); rwa [show k - 300 + 300 = k by omega] at this
  by_cases h77 : k < 306
  · have := zka77 (k - 303) (by omega); rwa [show k - 303 + 303 = k by omega] at this
  by_cases h78 : k < 308
  · have := zka78 (k - 306) (by omega); rwa [show k - 306 + 306 = k by omega] at this
  by_cases h79 : k < 311
  · have := zka79 (k - 308) (by omega); rwa [show k - 308 + 308 = k by omega] at this
  by_cases h80 : k < 314
  · have := zka80 (k - 311) (by omega); rwa [show k - 311 + 311 = k by omega] at this
  by_cases h81 : k < 315
  · have := zka81 (k - 314) (by omega); rwa [show k - 314 + 314 = k by omega] at this
  by_cases h82 : k < 319
  · have := zka82 (k - 315) (by omega); rwa [show k - 315 + 315 = k by omega] at this
  by_cases h83 : k < 322
  · have := zka83 (k - 319) (by omega); rwa [show k - 319 + 319 = k by omega] at this
  by_cases h84 : k < 324
  · have := zka84 (k - 322) (by omega); rwa [show k - 322 + 322 = k by omega] at this
  by_cases h85 : k < 329
  · have := zka85 (k - 324) (by omega); rwa [show k - 324 + 324 = k by omega] at this
  by_cases h86 : k < 332
  · have := zka86 (k - 329) (by omega); rwa [show k - 329 + 329 = k by omega] at this
  by_cases h87 : k < 334
  · have := zka87 (k - 332) (by omega); rwa [show k - 332 + 332 = k by omega] at this
  by_cases h88 : k < 335
  · have := zka88 (k - 334) (by omega); rwa [show k - 334 + 334 = k by omega] at this
  by_cases h89 : k < 342
  · have := zka89 (k - 335) (by omega); rwa [show k - 335 + 335 = k by omega] at this
  by_cases h90 : k < 347
  · have := zka90 (k - 342) (by omega); rwa [show k - 342 + 342 = k by omega] at this
  by_cases h91 : k < 348
  · have := zka91 (k - 347) (by omega); rwa [show k - 347 + 347 = k by omega] at this
  by_cases h92 : k < 350
  · have := zka92 (k - 348) (by omega); rwa [show k - 348 + 348 = k by omega] at this
  by_cases h93 : k < 352
  · have := zka93 (k - 350) (by omega); rwa [show k - 350 + 350 = k by omega] at this
  by_cases h94 : k < 356
  · have := zka94 (k - 352) (by omega); rwa [show k - 352 + 352 = k by omega] at this
  by_cases h95 : k < 358
  · have := zka95 (k - 356) (by omega); rwa [show k - 356 + 356 = k by omega] at this
  by_cases h96 : k < 361
  · have := zka96 (k - 358) (by omega); rwa [show k - 358 + 358 = k by omega] at this
  by_cases h97 : k < 366
  · have := zka97 (k - 361) (by omega); rwa [show k - 361 + 361 = k by omega] at this
  by_cases h98 : k < 371
  · have := zka98 (k - 366) (by omega); rwa [show k - 366 + 366 = k by omega] at this
  by_cases h99 : k < 373
  · have := zka99 (k - 371) (by omega); rwa [show k - 371 + 371 = k by omega] at this
  by_cases h100 : k < 374
  · have := zka100 (k - 373) (by omega); rwa [show k - 373 + 373 = k by omega] at this
  by_cases h101 : k < 377
  · have := zka101 (k - 374) (by omega); rwa [show k - 374 + 374 = k by omega] at this
  by_cases h102 : k < 379
  · have := zka102 (k - 377) (by omega); rwa [show k - 377 + 377 = k by omega] at this
  by_cases h103 : k < 382
  · have := zka103 (k - 379) (by omega); rwa [show k - 379 + 379 = k by omega] at this
  by_cases h104 : k < 383
  · have := zka104 (k - 382) (by omega); rwa [show k - 382 + 382 = k by omega] at this
  by_cases h105 : k < 385
  · have := zka105 (k - 383) (by omega); rwa [show k - 383 + 383 = k by omega] at this
  by_cases h106 : k < 386
  · have := zka106 (k - 385) (by omega); rwa [show k - 385 + 385 = k by omega] at this
  by_cases h107 : k < 388
  · have := zka107 (k - 386) (by omega); rwa [show k - 386 + 386 = k by omega] at this
  by_cases h108 : k < 389
  · have := zka108 (k - 388) (by omega); rwa [show k - 388 + 388 = k by omega] at this
  by_cases h109 : k < 392
  · have := zka109 (k - 389) (by omega); rwa [show k - 389 + 389 = k by omega] at this
  by_cases h110 : k < 394
  · have := zka110 (k - 392) (by omega); rwa [show k - 392 + 392 = k by omega] at this
  by_cases h111 : k < 402
  · have := zka111 (k - 394) (by omega); rwa [show k - 394 + 394 = k by omega] at this
  by_cases h112 : k < 404
  · have := zka112 (k - 402) (by omega); rwa [show k - 402 + 402 = k by omega] at this
  by_cases h113 : k < 411
  · have := zka113 (k - 404) (by omega); rwa [show k - 404 + 404 = k by omega] at this
  omega
theorem zKall_ge (k : Nat) (h : 412 ≤ k) : (Kall.getD (k / 20) []).getD (k % 20) [] = [] := by
  rw [List.getD_eq_getElem?_getD (l := Kall)]
  by_cases h3 : k / 20 = 20
  · rw [h3]
    show (Kn20).getD (k % 20) [] = []
    rw [List.getD_eq_getElem?_getD, List.getElem?_eq_none (by show 12 ≤ _; omega)]
    rfl
  · rw [List.getElem?_eq_none (by show 21 ≤ _; omega)]
    rfl
theorem zkall_ok (k : Nat) (hne : k ≠ 411) : zkall k = true := by
  by_cases h : k < 411
  · exact zkall_lt k h
  · unfold zkall
    rw [zKall_ge k (by omega)]
    simp

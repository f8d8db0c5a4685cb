/-! The shape of the heap: where the two objects' things lie, what never changes -/
set_option maxRecDepth 100000
def kd (a : Int) : Int := if a < 397 then (if a < 278 then (if a < 236 then (if a < 218 then (if a < 209 then (if a < 205 then (if a < 202 then (if a < 201 then (2) else (3)) else (if a < 204 then (107) else (101))) else (if a < 207 then (if a < 206 then (101) else (1)) else (if a < 208 then (103) else (1)))) else (if a < 213 then (if a < 211 then (if a < 210 then (103) else (1)) else (if a < 212 then (103) else (1))) else (if a < 215 then (if a < 214 then (103) else (1)) else (if a < 216 then (103) else (if a < 217 then (1) else (103)))))) else (if a < 227 then (if a < 222 then (if a < 220 then (if a < 219 then (1) else (103)) else (if a < 221 then (1) else (103))) else (if a < 224 then (if a < 223 then (1) else (103)) else (if a < 225 then (1) else (if a < 226 then (103) else (1))))) else (if a < 231 then (if a < 229 then (if a < 228 then (103) else (1)) else (if a < 230 then (103) else (1))) else (if a < 233 then (if a < 232 then (103) else (1)) else (if a < 234 then (103) else (if a < 235 then (1) else (103))))))) else (if a < 253 then (if a < 244 then (if a < 240 then (if a < 238 then (if a < 237 then (1) else (103)) else (if a < 239 then (1) else (103))) else (if a < 242 then (if a < 241 then (1) else (103)) else (if a < 243 then (1) else (103)))) else (if a < 248 then (if a < 246 then (if a < 245 then (1) else (103)) else (if a < 247 then (1) else (103))) else (if a < 250 then (if a < 249 then (1) else (103)) else (if a < 251 then (1) else (if a < 252 then (103) else (1)))))) else (if a < 266 then (if a < 257 then (if a < 255 then (if a < 254 then (103) else (1)) else (if a < 256 then (103) else (1))) else (if a < 259 then (if a < 258 then (103) else (4)) else (if a < 263 then (101) else (if a < 264 then (101) else (101))))) else (if a < 270 then (if a < 268 then (if a < 267 then (101) else (101)) else (if a < 269 then (107) else (101))) else (if a < 272 then (if a < 271 then (101) else (5)) else (if a < 273 then (101) else (if a < 277 then (101) else (101)))))))) else (if a < 331 then (if a < 308 then (if a < 291 then (if a < 284 then (if a < 282 then (if a < 279 then (101) else (101)) else (if a < 283 then (101) else (4))) else (if a < 289 then (if a < 288 then (101) else (101)) else (if a < 290 then (5) else (101)))) else (if a < 300 then (if a < 296 then (if a < 295 then (101) else (101)) else (if a < 297 then (101) else (101))) else (if a < 302 then (if a < 301 then (101) else (4)) else (if a < 306 then (101) else (if a < 307 then (101) else (6)))))) else (if a < 319 then (if a < 314 then (if a < 312 then (if a < 311 then (101) else (101)) else (if a < 313 then (101) else (101))) else (if a < 316 then (if a < 315 then (101) else (101)) else (if a < 317 then (103) else (if a < 318 then (103) else (101))))) else (if a < 323 then (if a < 321 then (if a < 320 then (101) else (101)) else (if a < 322 then (102) else (102))) else (if a < 325 then (if a < 324 then (101) else (4)) else (if a < 329 then (101) else (if a < 330 then (101) else (4))))))) else (if a < 362 then (if a < 346 then (if a < 338 then (if a < 336 then (if a < 335 then (101) else (101)) else (if a < 337 then (7) else (103))) else (if a < 340 then (if a < 339 then (101) else (101)) else (if a < 341 then (101) else (if a < 342 then (4) else (101))))) else (if a < 353 then (if a < 348 then (if a < 347 then (101) else (4)) else (if a < 352 then (101) else (101))) else (if a < 356 then (if a < 355 then (101) else (101)) else (if a < 357 then (8) else (if a < 358 then (4) else (101)))))) else (if a < 378 then (if a < 369 then (if a < 364 then (if a < 363 then (101) else (4)) else (if a < 368 then (101) else (101))) else (if a < 371 then (if a < 370 then (7) else (103)) else (if a < 372 then (7) else (if a < 373 then (103) else (101))))) else (if a < 388 then (if a < 383 then (if a < 379 then (9) else (101)) else (if a < 384 then (4) else (101))) else (if a < 391 then (if a < 389 then (101) else (101)) else (if a < 392 then (9) else (if a < 396 then (101) else (4))))))))) else (if a < 617 then (if a < 445 then (if a < 421 then (if a < 411 then (if a < 405 then (if a < 402 then (if a < 401 then (101) else (101)) else (if a < 404 then (101) else (101))) else (if a < 408 then (if a < 406 then (104) else (101)) else (if a < 409 then (10) else (103)))) else (if a < 416 then (if a < 414 then (if a < 413 then (101) else (101)) else (if a < 415 then (104) else (102))) else (if a < 418 then (if a < 417 then (101) else (102)) else (if a < 419 then (101) else (if a < 420 then (101) else (102)))))) else (if a < 432 then (if a < 427 then (if a < 425 then (if a < 424 then (101) else (11)) else (if a < 426 then (101) else (104))) else (if a < 429 then (if a < 428 then (101) else (104)) else (if a < 430 then (101) else (if a < 431 then (101) else (12))))) else (if a < 437 then (if a < 435 then (if a < 434 then (101) else (13)) else (if a < 436 then (103) else (103))) else (if a < 440 then (if a < 438 then (103) else (103)) else (if a < 441 then (103) else (if a < 442 then (14) else (101))))))) else (if a < 472 then (if a < 455 then (if a < 450 then (if a < 448 then (if a < 446 then (101) else (101)) else (if a < 449 then (7) else (103))) else (if a < 452 then (if a < 451 then (7) else (103)) else (if a < 453 then (7) else (if a < 454 then (103) else (15))))) else (if a < 460 then (if a < 457 then (if a < 456 then (102) else (101)) else (if a < 458 then (101) else (101))) else (if a < 465 then (if a < 464 then (101) else (101)) else (if a < 470 then (101) else (if a < 471 then (102) else (101)))))) else (if a < 483 then (if a < 476 then (if a < 474 then (if a < 473 then (16) else (101)) else (if a < 475 then (102) else (101))) else (if a < 478 then (if a < 477 then (17) else (101)) else (if a < 481 then (101) else (if a < 482 then (101) else (101))))) else (if a < 488 then (if a < 485 then (if a < 484 then (101) else (101)) else (if a < 487 then (101) else (101))) else (if a < 493 then (if a < 492 then (101) else (105)) else (if a < 615 then (101) else (if a < 616 then (17) else (101)))))))) else (if a < 808 then (if a < 789 then (if a < 631 then (if a < 623 then (if a < 621 then (if a < 620 then (101) else (101)) else (if a < 622 then (101) else (101))) else (if a < 626 then (if a < 624 then (101) else (101)) else (if a < 627 then (101) else (101)))) else (if a < 769 then (if a < 755 then (if a < 632 then (105) else (101)) else (if a < 756 then (106) else (102))) else (if a < 786 then (if a < 770 then (106) else (102)) else (if a < 787 then (101) else (if a < 788 then (101) else (101)))))) else (if a < 798 then (if a < 793 then (if a < 791 then (if a < 790 then (101) else (101)) else (if a < 792 then (101) else (101))) else (if a < 795 then (if a < 794 then (101) else (101)) else (if a < 796 then (104) else (if a < 797 then (101) else (101))))) else (if a < 803 then (if a < 800 then (if a < 799 then (101) else (101)) else (if a < 802 then (101) else (101))) else (if a < 805 then (if a < 804 then (101) else (101)) else (if a < 806 then (18) else (if a < 807 then (101) else (101))))))) else (if a < 841 then (if a < 822 then (if a < 813 then (if a < 811 then (if a < 810 then (101) else (18)) else (if a < 812 then (101) else (101))) else (if a < 817 then (if a < 815 then (101) else (101)) else (if a < 819 then (101) else (if a < 821 then (101) else (101))))) else (if a < 828 then (if a < 824 then (if a < 823 then (101) else (101)) else (if a < 825 then (104) else (101))) else (if a < 830 then (if a < 829 then (101) else (106)) else (if a < 835 then (102) else (if a < 836 then (105) else (101)))))) else (if a < 852 then (if a < 847 then (if a < 845 then (if a < 843 then (101) else (101)) else (if a < 846 then (104) else (101))) else (if a < 849 then (if a < 848 then (101) else (101)) else (if a < 850 then (104) else (if a < 851 then (101) else (105))))) else (if a < 872 then (if a < 862 then (if a < 861 then (101) else (105)) else (if a < 871 then (101) else (101))) else (if a < 874 then (if a < 873 then (101) else (105)) else (if a < 1076 then (101) else (if a < 1077 then (101) else (102)))))))))
def ln (a : Int) : Int := if a < 397 then (if a < 278 then (if a < 236 then (if a < 218 then (if a < 209 then (if a < 205 then (if a < 202 then (if a < 201 then (65) else (4)) else (if a < 204 then (26) else (26))) else (if a < 207 then (if a < 206 then (104) else (4)) else (if a < 208 then (3) else (4)))) else (if a < 213 then (if a < 211 then (if a < 210 then (3) else (4)) else (if a < 212 then (3) else (4))) else (if a < 215 then (if a < 214 then (3) else (4)) else (if a < 216 then (3) else (if a < 217 then (4) else (3)))))) else (if a < 227 then (if a < 222 then (if a < 220 then (if a < 219 then (4) else (3)) else (if a < 221 then (4) else (3))) else (if a < 224 then (if a < 223 then (4) else (2)) else (if a < 225 then (4) else (if a < 226 then (3) else (4))))) else (if a < 231 then (if a < 229 then (if a < 228 then (4) else (4)) else (if a < 230 then (4) else (4))) else (if a < 233 then (if a < 232 then (3) else (4)) else (if a < 234 then (4) else (if a < 235 then (4) else (3))))))) else (if a < 253 then (if a < 244 then (if a < 240 then (if a < 238 then (if a < 237 then (4) else (2)) else (if a < 239 then (4) else (4))) else (if a < 242 then (if a < 241 then (4) else (3)) else (if a < 243 then (4) else (3)))) else (if a < 248 then (if a < 246 then (if a < 245 then (4) else (4)) else (if a < 247 then (4) else (4))) else (if a < 250 then (if a < 249 then (4) else (3)) else (if a < 251 then (4) else (if a < 252 then (4) else (4)))))) else (if a < 266 then (if a < 257 then (if a < 255 then (if a < 254 then (4) else (4)) else (if a < 256 then (4) else (4))) else (if a < 259 then (if a < 258 then (4) else (6)) else (if a < 263 then (1300) else (if a < 264 then (3900) else (10))))) else (if a < 270 then (if a < 268 then (if a < 267 then (30) else (10)) else (if a < 269 then (10) else (1000))) else (if a < 272 then (if a < 271 then (3) else (20)) else (if a < 273 then (3) else (if a < 277 then (12) else (36)))))))) else (if a < 331 then (if a < 308 then (if a < 291 then (if a < 284 then (if a < 282 then (if a < 279 then (12) else (4)) else (if a < 283 then (8) else (6))) else (if a < 289 then (if a < 288 then (2200) else (6600)) else (if a < 290 then (20) else (3)))) else (if a < 300 then (if a < 296 then (if a < 295 then (12) else (36)) else (if a < 297 then (12) else (4))) else (if a < 302 then (if a < 301 then (8) else (6)) else (if a < 306 then (2200) else (if a < 307 then (6600) else (23)))))) else (if a < 319 then (if a < 314 then (if a < 312 then (if a < 311 then (121) else (363)) else (if a < 313 then (30976) else (121))) else (if a < 316 then (if a < 315 then (13) else (121)) else (if a < 317 then (172800) else (if a < 318 then (1728000) else (120))))) else (if a < 323 then (if a < 321 then (if a < 320 then (3) else (256)) else (if a < 322 then (1560) else (4800))) else (if a < 325 then (if a < 324 then (256) else (6)) else (if a < 329 then (2200) else (if a < 330 then (6600) else (6))))))) else (if a < 362 then (if a < 346 then (if a < 338 then (if a < 336 then (if a < 335 then (2200) else (6600)) else (if a < 337 then (2) else (4200))) else (if a < 340 then (if a < 339 then (256) else (3)) else (if a < 341 then (800) else (if a < 342 then (6) else (370))))) else (if a < 353 then (if a < 348 then (if a < 347 then (1110) else (6)) else (if a < 352 then (370) else (1110))) else (if a < 356 then (if a < 355 then (12) else (36)) else (if a < 357 then (14) else (if a < 358 then (6) else (32)))))) else (if a < 378 then (if a < 369 then (if a < 364 then (if a < 363 then (96) else (6)) else (if a < 368 then (32) else (96))) else (if a < 371 then (if a < 370 then (2) else (400)) else (if a < 372 then (2) else (if a < 373 then (400) else (3))))) else (if a < 388 then (if a < 383 then (if a < 379 then (13) else (3)) else (if a < 384 then (6) else (2200))) else (if a < 391 then (if a < 389 then (6600) else (3)) else (if a < 392 then (13) else (if a < 396 then (3) else (6))))))))) else (if a < 617 then (if a < 445 then (if a < 421 then (if a < 411 then (if a < 405 then (if a < 402 then (if a < 401 then (2200) else (6600)) else (if a < 404 then (3) else (4096))) else (if a < 408 then (if a < 406 then (4096) else (3)) else (if a < 409 then (21) else (80)))) else (if a < 416 then (if a < 414 then (if a < 413 then (8) else (1424)) else (if a < 415 then (178) else (401))) else (if a < 418 then (if a < 417 then (401) else (160000)) else (if a < 419 then (160000) else (if a < 420 then (2000) else (2000)))))) else (if a < 432 then (if a < 427 then (if a < 425 then (if a < 424 then (4) else (8)) else (if a < 426 then (20) else (20))) else (if a < 429 then (if a < 428 then (10) else (5)) else (if a < 430 then (10) else (if a < 431 then (5) else (5))))) else (if a < 437 then (if a < 435 then (if a < 434 then (5) else (12)) else (if a < 436 then (25728) else (28400))) else (if a < 440 then (if a < 438 then (128) else (24200)) else (if a < 441 then (2000) else (if a < 442 then (27) else (3))))))) else (if a < 472 then (if a < 455 then (if a < 450 then (if a < 448 then (if a < 446 then (2200) else (3)) else (if a < 449 then (2) else (400))) else (if a < 452 then (if a < 451 then (2) else (2200)) else (if a < 453 then (2) else (if a < 454 then (100) else (163))))) else (if a < 460 then (if a < 457 then (if a < 456 then (36) else (36)) else (if a < 458 then (108) else (36))) else (if a < 465 then (if a < 464 then (8800) else (26400)) else (if a < 470 then (8800) else (if a < 471 then (8800) else (4000)))))) else (if a < 483 then (if a < 476 then (if a < 474 then (if a < 473 then (8) else (2000)) else (if a < 475 then (3) else (3))) else (if a < 478 then (if a < 477 then (28) else (3)) else (if a < 481 then (13) else (if a < 482 then (36) else (12))))) else (if a < 488 then (if a < 485 then (if a < 484 then (4) else (8)) else (if a < 487 then (4) else (768))) else (if a < 493 then (if a < 492 then (122) else (122)) else (if a < 615 then (256) else (if a < 616 then (28) else (3)))))))) else (if a < 808 then (if a < 789 then (if a < 631 then (if a < 623 then (if a < 621 then (if a < 620 then (13) else (36)) else (if a < 622 then (12) else (4))) else (if a < 626 then (if a < 624 then (8) else (4)) else (if a < 627 then (768) else (122)))) else (if a < 769 then (if a < 755 then (if a < 632 then (122) else (256)) else (if a < 756 then (13) else (122))) else (if a < 786 then (if a < 770 then (16) else (122)) else (if a < 787 then (518400) else (if a < 788 then (256000) else (122)))))) else (if a < 798 then (if a < 793 then (if a < 791 then (if a < 790 then (3) else (2000)) else (if a < 792 then (3) else (256))) else (if a < 795 then (if a < 794 then (4000) else (3)) else (if a < 796 then (122) else (if a < 797 then (400) else (12))))) else (if a < 803 then (if a < 800 then (if a < 799 then (36) else (12)) else (if a < 802 then (64) else (80))) else (if a < 805 then (if a < 804 then (4000) else (2)) else (if a < 806 then (9) else (if a < 807 then (2) else (3))))))) else (if a < 841 then (if a < 822 then (if a < 813 then (if a < 811 then (if a < 810 then (4) else (9)) else (if a < 812 then (2) else (3))) else (if a < 817 then (if a < 815 then (4) else (4096)) else (if a < 819 then (8) else (if a < 821 then (80) else (3216))))) else (if a < 828 then (if a < 824 then (if a < 823 then (1024) else (1424)) else (if a < 825 then (178) else (178))) else (if a < 830 then (if a < 829 then (8) else (5)) else (if a < 835 then (402) else (if a < 836 then (5) else (402)))))) else (if a < 852 then (if a < 847 then (if a < 845 then (if a < 843 then (4) else (20)) else (if a < 846 then (20) else (10))) else (if a < 849 then (if a < 848 then (5) else (10)) else (if a < 850 then (5) else (if a < 851 then (5) else (9))))) else (if a < 872 then (if a < 862 then (if a < 861 then (16) else (9)) else (if a < 871 then (16) else (6))) else (if a < 874 then (if a < 873 then (24204) else (201)) else (if a < 1076 then (128) else (if a < 1077 then (24200) else (1)))))))))
def ro (a i : Int) : Int := if a < 371 then (if a < 324 then (if a < 283 then (if a < 258 then (if a < 201 then (if a = 200 then (if i = 0 then 201 else if i = 1 then 258 else if i = 2 then 264 else if i = 3 then 265 else if i = 4 then 266 else if i = 5 then 267 else if i = 6 then 268 else if i = 8 then 269 else if i = 13 then 270 else if i = 18 then 307 else if i = 19 then 323 else if i = 20 then 324 else if i = 21 then 330 else if i = 24 then 336 else if i = 25 then 338 else if i = 28 then 339 else if i = 30 then 340 else if i = 34 then 353 else if i = 35 then 354 else if i = 36 then 355 else if i = 38 then 356 else if i = 41 then 404 else if i = 42 then 405 else if i = 43 then 406 else if i = 44 then 407 else if i = 49 then 408 else if i = 50 then 424 else if i = 51 then 431 else if i = 52 then 434 else if i = 54 then 440 else if i = 57 then 441 else if i = 60 then 447 else if i = 61 then 448 else if i = 62 then 450 else if i = 64 then 452 else 0) else 0) else (if a = 201 then (if i = 0 then 202 else if i = 1 then 203 else if i = 2 then 204 else if i = 3 then 205 else 0) else 0)) else (if a < 271 then (if a = 258 then (if i = 1 then 259 else if i = 2 then 260 else if i = 3 then 261 else if i = 4 then 263 else if i = 5 then 262 else 0) else 0) else (if a = 271 then (if i = 0 then 272 else if i = 4 then 273 else if i = 5 then 274 else if i = 6 then 275 else if i = 7 then 276 else if i = 9 then 277 else if i = 10 then 278 else if i = 12 then 279 else if i = 13 then 280 else if i = 14 then 281 else if i = 15 then 282 else if i = 16 then 283 else 0) else 0))) else (if a < 301 then (if a < 289 then (if a = 283 then (if i = 1 then 284 else if i = 2 then 285 else if i = 3 then 286 else if i = 4 then 288 else if i = 5 then 287 else 0) else 0) else (if a = 289 then (if i = 0 then 290 else if i = 4 then 291 else if i = 5 then 292 else if i = 6 then 293 else if i = 7 then 294 else if i = 9 then 295 else if i = 10 then 296 else if i = 12 then 297 else if i = 13 then 298 else if i = 14 then 299 else if i = 15 then 300 else if i = 16 then 301 else 0) else 0)) else (if a < 307 then (if a = 301 then (if i = 1 then 302 else if i = 2 then 303 else if i = 3 then 304 else if i = 4 then 306 else if i = 5 then 305 else 0) else 0) else (if a = 307 then (if i = 1 then 308 else if i = 2 then 309 else if i = 3 then 310 else if i = 4 then 311 else if i = 5 then 312 else if i = 6 then 313 else if i = 9 then 314 else if i = 10 then 315 else if i = 11 then 316 else if i = 12 then 317 else if i = 13 then 318 else if i = 14 then 319 else if i = 15 then 320 else if i = 16 then 321 else if i = 18 then 322 else if i = 22 then 200 else 0) else 0)))) else (if a < 347 then (if a < 336 then (if a < 330 then (if a = 324 then (if i = 1 then 325 else if i = 2 then 326 else if i = 3 then 327 else if i = 4 then 329 else if i = 5 then 328 else 0) else 0) else (if a = 330 then (if i = 1 then 331 else if i = 2 then 332 else if i = 3 then 333 else if i = 4 then 335 else if i = 5 then 334 else 0) else 0)) else (if a < 341 then (if a = 336 then (if i = 0 then 337 else 0) else 0) else (if a = 341 then (if i = 1 then 342 else if i = 2 then 343 else if i = 3 then 344 else if i = 4 then 346 else if i = 5 then 345 else 0) else 0))) else (if a < 357 then (if a < 356 then (if a = 347 then (if i = 1 then 348 else if i = 2 then 349 else if i = 3 then 350 else if i = 4 then 352 else if i = 5 then 351 else 0) else 0) else (if a = 356 then (if i = 0 then 357 else if i = 1 then 363 else if i = 3 then 369 else if i = 4 then 371 else if i = 6 then 373 else if i = 7 then 374 else if i = 8 then 375 else if i = 9 then 376 else if i = 12 then 377 else if i = 13 then 200 else 0) else 0)) else (if a < 363 then (if a = 357 then (if i = 1 then 358 else if i = 2 then 359 else if i = 3 then 360 else if i = 4 then 362 else if i = 5 then 361 else 0) else 0) else (if a < 369 then (if a = 363 then (if i = 1 then 364 else if i = 2 then 365 else if i = 3 then 366 else if i = 4 then 368 else if i = 5 then 367 else 0) else 0) else (if a = 369 then (if i = 0 then 370 else 0) else 0)))))) else (if a < 441 then (if a < 396 then (if a < 383 then (if a < 378 then (if a = 371 then (if i = 0 then 372 else 0) else 0) else (if a = 378 then (if i = 0 then 379 else if i = 3 then 380 else if i = 4 then 381 else if i = 5 then 382 else if i = 8 then 383 else if i = 11 then 389 else if i = 12 then 390 else 0) else 0)) else (if a < 391 then (if a = 383 then (if i = 1 then 384 else if i = 2 then 385 else if i = 3 then 386 else if i = 4 then 388 else if i = 5 then 387 else 0) else 0) else (if a = 391 then (if i = 0 then 392 else if i = 3 then 393 else if i = 4 then 394 else if i = 5 then 395 else if i = 8 then 396 else if i = 11 then 402 else if i = 12 then 403 else 0) else 0))) else (if a < 424 then (if a < 408 then (if a = 396 then (if i = 1 then 397 else if i = 2 then 398 else if i = 3 then 399 else if i = 4 then 401 else if i = 5 then 400 else 0) else 0) else (if a = 408 then (if i = 1 then 409 else if i = 2 then 410 else if i = 3 then 411 else if i = 4 then 412 else if i = 5 then 413 else if i = 6 then 414 else if i = 7 then 415 else if i = 8 then 416 else if i = 12 then 417 else if i = 13 then 418 else if i = 14 then 419 else if i = 15 then 420 else if i = 17 then 421 else if i = 18 then 422 else if i = 19 then 423 else if i = 20 then 200 else 0) else 0)) else (if a < 431 then (if a = 424 then (if i = 1 then 425 else if i = 2 then 426 else if i = 4 then 427 else if i = 5 then 428 else if i = 6 then 429 else if i = 7 then 430 else 0) else 0) else (if a < 434 then (if a = 431 then (if i = 1 then 432 else if i = 2 then 433 else 0) else 0) else (if a = 434 then (if i = 0 then 435 else if i = 1 then 436 else if i = 2 then 437 else if i = 3 then 438 else if i = 10 then 439 else if i = 11 then 200 else 0) else 0))))) else (if a < 454 then (if a < 450 then (if a < 448 then (if a = 441 then (if i = 10 then 442 else if i = 11 then 443 else if i = 12 then 444 else if i = 19 then 445 else if i = 25 then 446 else if i = 26 then 200 else 0) else 0) else (if a = 448 then (if i = 0 then 449 else 0) else 0)) else (if a < 452 then (if a = 450 then (if i = 0 then 451 else 0) else 0) else (if a = 452 then (if i = 0 then 453 else 0) else 0))) else (if a < 615 then (if a < 476 then (if a = 454 then (if i = 0 then 455 else if i = 1 then 456 else if i = 2 then 457 else if i = 3 then 458 else if i = 4 then 459 else if i = 6 then 460 else if i = 7 then 461 else if i = 8 then 462 else if i = 9 then 463 else if i = 10 then 464 else if i = 11 then 465 else if i = 12 then 466 else if i = 13 then 467 else if i = 14 then 468 else if i = 15 then 469 else if i = 16 then 470 else if i = 18 then 471 else if i = 23 then 472 else if i = 24 then 473 else if i = 32 then 474 else if i = 33 then 475 else if i = 36 then 476 else if i = 37 then 615 else if i = 39 then 754 else if i = 41 then 755 else if i = 42 then 769 else if i = 45 then 786 else if i = 46 then 787 else if i = 47 then 788 else if i = 48 then 789 else if i = 52 then 790 else if i = 57 then 791 else if i = 59 then 792 else if i = 61 then 793 else if i = 65 then 794 else if i = 70 then 795 else if i = 72 then 796 else if i = 74 then 797 else if i = 75 then 798 else if i = 76 then 799 else if i = 79 then 800 else if i = 80 then 801 else if i = 82 then 802 else if i = 86 then 803 else if i = 88 then 804 else if i = 90 then 805 else if i = 91 then 810 else if i = 96 then 815 else if i = 98 then 816 else if i = 110 then 817 else if i = 111 then 818 else if i = 112 then 819 else if i = 113 then 820 else if i = 115 then 821 else if i = 116 then 822 else if i = 117 then 823 else if i = 118 then 824 else if i = 119 then 825 else if i = 120 then 826 else if i = 121 then 827 else if i = 122 then 828 else if i = 123 then 829 else if i = 124 then 835 else if i = 126 then 841 else if i = 127 then 842 else if i = 129 then 843 else if i = 130 then 844 else if i = 131 then 845 else if i = 132 then 846 else if i = 133 then 847 else if i = 135 then 848 else if i = 136 then 849 else if i = 138 then 850 else if i = 139 then 851 else if i = 140 then 861 else if i = 147 then 871 else if i = 155 then 872 else if i = 157 then 873 else if i = 158 then 1075 else if i = 159 then 1076 else 0) else 0) else (if a = 476 then (if i = 2 then 477 else if i = 6 then 478 else if i = 7 then 479 else if i = 8 then 480 else if i = 10 then 481 else if i = 11 then 482 else if i = 13 then 483 else if i = 14 then 484 else if i = 15 then 485 else if i = 16 then 486 else if i = 19 then 487 else if i = 21 then 488 else if i = 22 then 489 else if i = 23 then 490 else if i = 24 then 491 else if i = 25 then 492 else 0) else 0)) else (if a < 805 then (if a = 615 then (if i = 2 then 616 else if i = 6 then 617 else if i = 7 then 618 else if i = 8 then 619 else if i = 10 then 620 else if i = 11 then 621 else if i = 13 then 622 else if i = 14 then 623 else if i = 15 then 624 else if i = 16 then 625 else if i = 19 then 626 else if i = 21 then 627 else if i = 22 then 628 else if i = 23 then 629 else if i = 24 then 630 else if i = 25 then 631 else 0) else 0) else (if a < 810 then (if a = 805 then (if i = 1 then 806 else if i = 3 then 807 else if i = 5 then 808 else if i = 7 then 809 else 0) else 0) else (if a = 810 then (if i = 1 then 811 else if i = 3 then 812 else if i = 5 then 813 else if i = 7 then 814 else 0) else 0))))))
def ra (a i : Int) : Int := if a = 203 then (if 0 ≤ i ∧ i < 26 then 206 + 2 * i else 0) else if a = 492 then (if 0 ≤ i ∧ i < 122 then 493 + i else 0) else if a = 631 then (if 0 ≤ i ∧ i < 122 then 632 + i else 0) else if a = 755 then (if 0 ≤ i ∧ i < 13 then 756 + i else 0) else if a = 769 then (if 0 ≤ i ∧ i < 16 then 770 + i else 0) else if a = 829 then (if 0 ≤ i ∧ i < 5 then 830 + i else 0) else if a = 835 then (if 0 ≤ i ∧ i < 5 then 836 + i else 0) else if a = 851 then (if 0 ≤ i ∧ i < 9 then 852 + i else 0) else if a = 861 then (if 0 ≤ i ∧ i < 9 then 862 + i else 0) else if a = 873 then (if 0 ≤ i ∧ i < 201 then 874 + i else 0) else 0
def rf (a i : Int) : Int := if a < 200 ∨ 1078 ≤ a ∨ kd a = 1 ∨ (101 ≤ kd a ∧ kd a ≤ 104) then 0 else if kd a < 100 then ro a i else ra a i
def isX3 (a : Int) : Prop := a = 258 ∨ a = 283 ∨ a = 301 ∨ a = 324 ∨ a = 330 ∨ a = 341 ∨ a = 347 ∨ a = 357 ∨ a = 363 ∨ a = 383 ∨ a = 396
def isX4 (a : Int) : Prop := a = 271 ∨ a = 289
def isX6 (a : Int) : Prop := a = 336 ∨ a = 369 ∨ a = 371 ∨ a = 448 ∨ a = 450 ∨ a = 452
def isX8 (a : Int) : Prop := a = 378 ∨ a = 391
def isX16 (a : Int) : Prop := a = 476 ∨ a = 615
def isX17 (a : Int) : Prop := a = 805 ∨ a = 810
theorem dec_X3 (p : Int → Prop) (h : p 258 ∧ p 283 ∧ p 301 ∧ p 324 ∧ p 330 ∧ p 341 ∧ p 347 ∧ p 357 ∧ p 363 ∧ p 383 ∧ p 396) : ∀ a, isX3 a → p a := by
  intro a ha
  rcases ha with rfl | rfl | rfl | rfl | rfl | rfl | rfl | rfl | rfl | rfl | rfl
  · exact h.1
  · exact h.2.1
  · exact h.2.2.1
  · exact h.2.2.2.1
  · exact h.2.2.2.2.1
  · exact h.2.2.2.2.2.1
  · exact h.2.2.2.2.2.2.1
  · exact h.2.2.2.2.2.2.2.1
  · exact h.2.2.2.2.2.2.2.2.1
  · exact h.2.2.2.2.2.2.2.2.2.1
  · exact h.2.2.2.2.2.2.2.2.2.2
theorem dec_X4 (p : Int → Prop) (h : p 271 ∧ p 289) : ∀ a, isX4 a → p a := by
  intro a ha
  rcases ha with rfl | rfl
  · exact h.1
  · exact h.2
theorem dec_X6 (p : Int → Prop) (h : p 336 ∧ p 369 ∧ p 371 ∧ p 448 ∧ p 450 ∧ p 452) : ∀ a, isX6 a → p a := by
  intro a ha
  rcases ha with rfl | rfl | rfl | rfl | rfl | rfl
  · exact h.1
  · exact h.2.1
  · exact h.2.2.1
  · exact h.2.2.2.1
  · exact h.2.2.2.2.1
  · exact h.2.2.2.2.2
theorem dec_X8 (p : Int → Prop) (h : p 378 ∧ p 391) : ∀ a, isX8 a → p a := by
  intro a ha
  rcases ha with rfl | rfl
  · exact h.1
  · exact h.2
theorem dec_X16 (p : Int → Prop) (h : p 476 ∧ p 615) : ∀ a, isX16 a → p a := by
  intro a ha
  rcases ha with rfl | rfl
  · exact h.1
  · exact h.2
theorem dec_X17 (p : Int → Prop) (h : p 805 ∧ p 810) : ∀ a, isX17 a → p a := by
  intro a ha
  rcases ha with rfl | rfl
  · exact h.1
  · exact h.2
def Sh (S : Nat → Nat) (h : AH) : Prop := (∀ a, 200 ≤ a → a < 1078 → h a (-2) = kd a ∧ h a (-1) = ln a) ∧ (∀ a i, rf a i ≠ 0 → h a i = rf a i) ∧ (∀ a i, 0 < a → a < 200 → h a i = oldV S a i) ∧ (∀ a, 2 ≤ h a (-2) → h a (-2) ≤ 18 → 200 ≤ a ∧ a < 1078) ∧ isX4 (h 200 16) ∧ isX4 (h 200 17) ∧ isX3 (h 200 32) ∧ isX3 (h 200 33) ∧ isX8 (h 200 39) ∧ isX8 (h 200 40) ∧ 1078 ≤ h 0 0 ∧ (∀ a, h a (-2) = 103 → 0 < a ∧ ∀ i, 0 ≤ i → jBy (h a i))
def ndy (a i : Int) : Prop := ¬ (a = 200 ∧ i = 16) ∧ ¬ (a = 200 ∧ i = 17) ∧ ¬ (a = 200 ∧ i = 32) ∧ ¬ (a = 200 ∧ i = 33) ∧ ¬ (a = 200 ∧ i = 39) ∧ ¬ (a = 200 ∧ i = 40)
def ar (a : Int) : Bool := decide (200 ≤ a) && decide (a < 1078) && decide (101 ≤ kd a) && decide (kd a ≤ 104)
section SHS
variable {S : Nat → Nat} {h : AH} {a i v : Int}
theorem jst_o {b j : Int} (hn : ¬ (b = a ∧ j = i)) : jst h a i v b j = h b j := if_neg hn
theorem Sh_jst (hS : Sh S h) (ha : 200 ≤ a) (hi : 0 ≤ i) (hr : rf a i = 0) (hd : ndy a i) (hv : h a (-2) = 103 → jBy v) : Sh S (jst h a i v) := by
  obtain ⟨h1, h2, h3, h5, y0, y1, y2, y3, y4, y5, h9, hB⟩ := hS
  obtain ⟨z0, z1, z2, z3, z4, z5⟩ := hd
  refine ⟨fun b b1 b2 => ?_, fun b j hb => ?_, fun b j b1 b2 => ?_, fun b b1 b2 => ?_, ?_, ?_, ?_, ?_, ?_, ?_, ?_, fun b e => ?_⟩
  · rw [jst_m hi (by decide), jst_m hi (by decide)]; exact h1 b b1 b2
  · rw [jst_o (fun ⟨e1, e2⟩ => hb (by rw [e1, e2]; exact hr))]; exact h2 b j hb
  · rw [jst_ne (by omega)]; exact h3 b j b1 b2
  · rw [jst_m hi (by decide)] at b1 b2; exact h5 b b1 b2
  · rw [jst_o (fun ⟨e1, e2⟩ => z0 ⟨e1.symm, e2.symm⟩)]; exact y0
  · rw [jst_o (fun ⟨e1, e2⟩ => z1 ⟨e1.symm, e2.symm⟩)]; exact y1
  · rw [jst_o (fun ⟨e1, e2⟩ => z2 ⟨e1.symm, e2.symm⟩)]; exact y2
  · rw [jst_o (fun ⟨e1, e2⟩ => z3 ⟨e1.symm, e2.symm⟩)]; exact y3
  · rw [jst_o (fun ⟨e1, e2⟩ => z4 ⟨e1.symm, e2.symm⟩)]; exact y4
  · rw [jst_o (fun ⟨e1, e2⟩ => z5 ⟨e1.symm, e2.symm⟩)]; exact y5
  · rw [jst_ne (by omega)]; exact h9
  · rw [jst_m hi (by decide)] at e
    refine ⟨(hB b e).1, fun j j0 => ?_⟩
    by_cases q : b = a ∧ j = i
    · rw [q.1, q.2, jst_eq]; exact hv (q.1 ▸ e)
    · rw [jst_o q]; exact (hB b e).2 j j0
theorem rf_ar (ha : ar a = true) : rf a i = 0 := by
  unfold ar at ha
  simp only [Bool.and_eq_true, decide_eq_true_eq] at ha
  unfold rf
  exact if_pos (Or.inr (Or.inr (Or.inr ⟨ha.1.2, ha.2⟩)))
theorem ar_200 (ha : ar a = true) : 200 ≤ a ∧ a ≠ 200 := by
  unfold ar at ha
  simp only [Bool.and_eq_true, decide_eq_true_eq] at ha
  refine ⟨ha.1.1.1, fun e => ?_⟩
  rw [e] at ha
  exact absurd ha.1.2 (by decide +kernel)
theorem ndy_200 (ha : a ≠ 200) : ndy a i := by
  unfold ndy
  refine ⟨?_, ?_, ?_, ?_, ?_, ?_⟩ <;> (intro ⟨e, _⟩; exact ha e)
theorem jBy_b (x : Int) : jBy (ji2b x) := by
  unfold ji2b jBy
  have h1 : ((Int32.ofInt x).toInt8.toInt32).toInt = (Int32.ofInt x).toInt8.toInt := Int8.toInt_toInt32 _
  rw [h1]
  have a := Int8.le_toInt (Int32.ofInt x).toInt8
  have b := Int8.toInt_lt (Int32.ofInt x).toInt8
  omega
theorem Sh_sta (hS : Sh S h) (ha : ar a = true) (hi : 0 ≤ i) (hv : h a (-2) = 103 → jBy v) : Sh S (jst h a i v) := Sh_jst hS (ar_200 ha).1 hi (rf_ar ha) (ndy_200 (ar_200 ha).2) hv
theorem Sh_sto (hS : Sh S h) (hd : 200 ≤ a ∧ 0 ≤ i ∧ rf a i = 0 ∧ (a < 1078 ∧ kd a ≠ 103) ∧ ¬ (a = 200 ∧ i = 16) ∧ ¬ (a = 200 ∧ i = 17) ∧ ¬ (a = 200 ∧ i = 32) ∧ ¬ (a = 200 ∧ i = 33) ∧ ¬ (a = 200 ∧ i = 39) ∧ ¬ (a = 200 ∧ i = 40)) : Sh S (jst h a i v) := Sh_jst hS hd.1 hd.2.1 hd.2.2.1 hd.2.2.2.2 (fun e => absurd ((hS.1 a hd.1 hd.2.2.2.1.1).1.symm.trans e) hd.2.2.2.1.2)
theorem Sh_kd (hS : Sh S h) (h1 : 200 ≤ a) (h2 : a < 1078) : h a (-2) = kd a := (hS.1 a h1 h2).1
theorem rf_hi (h1 : 1078 ≤ a) : rf a i = 0 := if_pos (Or.inr (Or.inl h1))
theorem Sh_stk (hS : Sh S h) (hk : h a (-2) = 101 ∨ h a (-2) = 102 ∨ h a (-2) = 103 ∨ h a (-2) = 104) (hg : 200 ≤ a) (hi : 0 ≤ i) (hv : h a (-2) = 103 → jBy v) : Sh S (jst h a i v) := by
  by_cases c : a < 1078
  · have := Sh_kd hS hg c
    refine Sh_jst hS hg hi (if_pos (Or.inr (Or.inr (Or.inr (by omega))))) (ndy_200 (fun e => ?_)) hv
    rw [e, Sh_kd hS (by decide) (by decide)] at hk
    revert hk; decide +kernel
  · exact Sh_jst hS hg hi (rf_hi (by omega)) (ndy_200 (by omega)) hv
theorem Sh_str (hS : Sh S h) (hk : h a (-2) = 1) (hg : 200 ≤ a) (hi : 0 ≤ i) : Sh S (jst h a i v) := by
  by_cases c : a < 1078
  · have := Sh_kd hS hg c
    refine Sh_jst hS hg hi (if_pos (Or.inr (Or.inr (Or.inl (by omega))))) (ndy_200 (fun e => ?_)) (fun e => by omega)
    rw [e, Sh_kd hS (by decide) (by decide)] at hk
    revert hk; decide +kernel
  · exact Sh_jst hS hg hi (rf_hi (by omega)) (ndy_200 (by omega)) (fun e => by omega)
theorem Sh_stA (hS : Sh S h) (ha : a = 268) (hi : 0 ≤ i) : Sh S (jst h a i v) := by
  subst ha
  refine Sh_jst hS (by decide) hi ?_ (ndy_200 (by decide)) (fun e => absurd ((Sh_kd hS (by decide) (by decide)).symm.trans e) (by decide +kernel))
  unfold rf
  rw [if_neg (by decide +kernel), if_neg (by decide +kernel)]
  unfold ra
  rw [if_neg (by decide), if_neg (by decide), if_neg (by decide), if_neg (by decide), if_neg (by decide), if_neg (by decide), if_neg (by decide), if_neg (by decide), if_neg (by decide), if_neg (by decide)]
theorem Sh_of {x y : AH} (e : x = y) (p : Sh S y) : Sh S x := e ▸ p
theorem Sh_new {k n : Int} (hS : Sh S h) (hk : k = 1 ∨ 101 ≤ k) : Sh S (jnew h k n) := by
  obtain ⟨h1, h2, h3, h5, y0, y1, y2, y3, y4, y5, h9, hB⟩ := hS
  refine ⟨fun b b1 b2 => ?_, fun b j hb => ?_, fun b j b1 b2 => ?_, fun b b1 b2 => ?_, ?_, ?_, ?_, ?_, ?_, ?_, ?_, fun b e => ?_⟩
  · rw [jnew_ne (by omega) (by omega), jnew_ne (by omega) (by omega)]; exact h1 b b1 b2
  · have c1 : ¬ (b < 200 ∨ 1078 ≤ b) := fun c => hb (if_pos (c.elim Or.inl (fun c => Or.inr (Or.inl c))))
    rw [jnew_ne (by omega) (by omega)]; exact h2 b j hb
  · rw [jnew_ne (by omega) (by omega)]; exact h3 b j b1 b2
  · by_cases c : b = h 0 0
    · subst c; rw [jnew_at, if_pos rfl] at b1 b2; omega
    · by_cases c0 : b = 0
      · subst c0; rw [jnew_0 (by omega)] at b1 b2; exact h5 0 b1 b2
      · rw [jnew_ne c c0] at b1 b2; exact h5 b b1 b2
  · rw [jnew_ne (by omega) (by omega)]; exact y0
  · rw [jnew_ne (by omega) (by omega)]; exact y1
  · rw [jnew_ne (by omega) (by omega)]; exact y2
  · rw [jnew_ne (by omega) (by omega)]; exact y3
  · rw [jnew_ne (by omega) (by omega)]; exact y4
  · rw [jnew_ne (by omega) (by omega)]; exact y5
  · rw [jnew_0 (by omega), if_pos rfl]; omega
  · by_cases c : b = h 0 0
    · subst c; refine ⟨by omega, fun j j0 => ?_⟩; rw [jnew_at, if_neg (by omega), if_neg (by omega)]; exact ⟨by decide, by decide⟩
    · by_cases c0 : b = 0
      · subst c0; rw [jnew_0 (by omega)] at e; exact absurd (hB 0 e).1 (by decide)
      · rw [jnew_ne c c0] at e; refine ⟨(hB b e).1, fun j j0 => ?_⟩; rw [jnew_ne c c0]; exact (hB b e).2 j j0
theorem jth_n {b j : Int} (c : ¬ (b = 0 ∧ (j = 1 ∨ j = 2))) : jth h b j = h b j := by
  unfold jth
  rw [if_neg (fun e => c ⟨e.1, Or.inl e.2⟩), if_neg (fun e => c ⟨e.1, Or.inr e.2⟩)]
theorem Sh_th (hS : Sh S h) : Sh S (jth h) := by
  obtain ⟨h1, h2, h3, h5, y0, y1, y2, y3, y4, y5, h9, hB⟩ := hS
  refine ⟨fun b b1 b2 => ?_, fun b j hb => ?_, fun b j b1 b2 => ?_, fun b b1 b2 => ?_, ?_, ?_, ?_, ?_, ?_, ?_, ?_, fun b e => ?_⟩
  · rw [jth_n (by omega), jth_n (by omega)]; exact h1 b b1 b2
  · have c1 : ¬ b < 200 := fun c => hb (if_pos (Or.inl c))
    rw [jth_n (by omega)]; exact h2 b j hb
  · rw [jth_n (by omega)]; exact h3 b j b1 b2
  · rw [jth_n (by omega)] at b1 b2; exact h5 b b1 b2
  · rw [jth_n (by omega)]; exact y0
  · rw [jth_n (by omega)]; exact y1
  · rw [jth_n (by omega)]; exact y2
  · rw [jth_n (by omega)]; exact y3
  · rw [jth_n (by omega)]; exact y4
  · rw [jth_n (by omega)]; exact y5
  · rw [jth_n (by omega)]; exact h9
  · rw [jth_n (by omega)] at e; have g := (hB b e).1; refine ⟨g, fun j j0 => ?_⟩; rw [jth_n (by omega)]; exact (hB b e).2 j j0
theorem jcpy_o {b sp dp n c j : Int} (hn : ¬ (c = b ∧ dp ≤ j)) : jcpy h a sp b dp n c j = h c j := by
  unfold jcpy
  exact if_neg (fun e => hn ⟨e.1, e.2.1⟩)
theorem Sh_jcpy {b sp dp n : Int} (hS : Sh S h) (hg : 200 ≤ b) (hb : b ≠ 200) (hr : ∀ i, rf b i = 0) (hd : 0 ≤ dp) (hv : h b (-2) = 103 → h a (-2) = 103 ∧ 0 ≤ sp) : Sh S (jcpy h a sp b dp n) := by
  obtain ⟨h1, h2, h3, h5, y0, y1, y2, y3, y4, y5, h9, hB⟩ := hS
  refine ⟨fun c b1 b2 => ?_, fun c j hc => ?_, fun c j b1 b2 => ?_, fun c b1 b2 => ?_, ?_, ?_, ?_, ?_, ?_, ?_, ?_, fun c e => ?_⟩
  · rw [jcpy_o (by omega), jcpy_o (by omega)]; exact h1 c b1 b2
  · rw [jcpy_o (fun e => hc (by rw [e.1]; exact hr j))]; exact h2 c j hc
  · rw [jcpy_o (by omega)]; exact h3 c j b1 b2
  · rw [jcpy_o (by omega)] at b1 b2; exact h5 c b1 b2
  · rw [jcpy_o (fun e => hb e.1.symm)]; exact y0
  · rw [jcpy_o (fun e => hb e.1.symm)]; exact y1
  · rw [jcpy_o (fun e => hb e.1.symm)]; exact y2
  · rw [jcpy_o (fun e => hb e.1.symm)]; exact y3
  · rw [jcpy_o (fun e => hb e.1.symm)]; exact y4
  · rw [jcpy_o (fun e => hb e.1.symm)]; exact y5
  · rw [jcpy_o (by omega)]; exact h9
  · rw [jcpy_o (by omega)] at e
    refine ⟨(hB c e).1, fun j j0 => ?_⟩
    unfold jcpy
    by_cases q : c = b ∧ dp ≤ j ∧ j < dp + n
    · rw [if_pos q]; obtain ⟨u, w⟩ := hv (q.1 ▸ e); exact (hB a u).2 _ (by omega)
    · rw [if_neg q]; exact (hB c e).2 j j0
theorem Sh_cpy {b sp dp n : Int} (hS : Sh S h) (hb : ar b = true) (hd : 0 ≤ dp) (hv : h b (-2) = 103 → h a (-2) = 103 ∧ 0 ≤ sp) : Sh S (jcpy h a sp b dp n) := Sh_jcpy hS (ar_200 hb).1 (ar_200 hb).2 (fun _ => rf_ar hb) hd hv
theorem Sh_cpyk {k b sp dp n : Int} (hk : k = 101 ∨ k = 103) (hS : Sh S h) (hg : jcpG h k a sp b dp n) : Sh S (jcpy h a sp b dp n) := by
  obtain ⟨k1, k2, _, g2, s0, d0, _, _, _⟩ := hg
  have hb : b ≠ 200 := fun e => by
    rw [e, Sh_kd hS (by decide) (by decide)] at k2
    have : kd 200 = 2 := by decide +kernel
    omega
  refine Sh_jcpy hS g2 hb (fun i => ?_) d0 (fun e => ⟨k1.trans (k2.symm.trans e), s0⟩)
  by_cases c : b < 1078
  · have := Sh_kd hS g2 c
    exact if_pos (Or.inr (Or.inr (Or.inr (by omega))))
  · exact rf_hi (by omega)
theorem jI_nn {i n : Int} (g : jI i n) : 0 ≤ i := g.1
theorem cpg {k b sp dp n LA LB : Int} (ka : h a (-2) = k) (kb : h b (-2) = k) (ga : 200 ≤ a) (gb : 200 ≤ b) (la : h a (-1) = LA) (lb : h b (-1) = LB) : jcpG h k a sp b dp n ↔ 0 ≤ sp ∧ 0 ≤ dp ∧ 0 ≤ n ∧ sp + n ≤ LA ∧ dp + n ≤ LB := by
  unfold jcpG
  rw [la, lb]
  exact ⟨fun x => x.2.2.2.2, fun x => ⟨ka, kb, Or.inl ga, gb, x⟩⟩
theorem Sh_fix (hS : Sh S h) {w : Int} (hw : w ≠ 0) (hr : rf a i = w) : h a i = w := (hS.2.1 a i (by rw [hr]; exact hw)).trans hr
theorem dy_200_16 (hS : Sh S h) : isX4 (h 200 16) := hS.2.2.2.2.1
theorem Sh_dy_200_16 (hS : Sh S h) (hv : isX4 v) : Sh S (jst h 200 16 v) := by
  obtain ⟨h1, h2, h3, h5, y0, y1, y2, y3, y4, y5, h9, hB⟩ := hS
  refine ⟨fun b b1 b2 => ?_, fun b j hb => ?_, fun b j b1 b2 => ?_, fun b b1 b2 => ?_, ?_, ?_, ?_, ?_, ?_, ?_, ?_, fun b e => ?_⟩
  · rw [jst_m (by decide) (by decide), jst_m (by decide) (by decide)]; exact h1 b b1 b2
  · rw [jst_o (fun ⟨e1, e2⟩ => hb (by rw [e1, e2]; decide +kernel))]; exact h2 b j hb
  · rw [jst_ne (by omega)]; exact h3 b j b1 b2
  · rw [jst_m (by decide) (by decide)] at b1 b2; exact h5 b b1 b2
  · rw [jst_eq]; exact hv
  · rw [jst_ni (by decide)]; exact y1
  · rw [jst_ni (by decide)]; exact y2
  · rw [jst_ni (by decide)]; exact y3
  · rw [jst_ni (by decide)]; exact y4
  · rw [jst_ni (by decide)]; exact y5
  · rw [jst_ne (by omega)]; exact h9
  · rw [jst_m (by decide) (by decide)] at e
    refine ⟨(hB b e).1, fun j j0 => ?_⟩
    by_cases q : b = 200 ∧ j = 16
    · exfalso; rw [q.1, (h1 200 (by decide) (by decide)).1] at e; exact absurd e (by decide +kernel)
    · rw [jst_o q]; exact (hB b e).2 j j0
theorem dy_200_17 (hS : Sh S h) : isX4 (h 200 17) := hS.2.2.2.2.2.1
theorem Sh_dy_200_17 (hS : Sh S h) (hv : isX4 v) : Sh S (jst h 200 17 v) := by
  obtain ⟨h1, h2, h3, h5, y0, y1, y2, y3, y4, y5, h9, hB⟩ := hS
  refine ⟨fun b b1 b2 => ?_, fun b j hb => ?_, fun b j b1 b2 => ?_, fun b b1 b2 => ?_, ?_, ?_, ?_, ?_, ?_, ?_, ?_, fun b e => ?_⟩
  · rw [jst_m (by decide) (by decide), jst_m (by decide) (by decide)]; exact h1 b b1 b2
  · rw [jst_o (fun ⟨e1, e2⟩ => hb (by rw [e1, e2]; decide +kernel))]; exact h2 b j hb
  · rw [jst_ne (by omega)]; exact h3 b j b1 b2
  · rw [jst_m (by decide) (by decide)] at b1 b2; exact h5 b b1 b2
  · rw [jst_ni (by decide)]; exact y0
  · rw [jst_eq]; exact hv
  · rw [jst_ni (by decide)]; exact y2
  · rw [jst_ni (by decide)]; exact y3
  · rw [jst_ni (by decide)]; exact y4
  · rw [jst_ni (by decide)]; exact y5
  · rw [jst_ne (by omega)]; exact h9
  · rw [jst_m (by decide) (by decide)] at e
    refine ⟨(hB b e).1, fun j j0 => ?_⟩
    by_cases q : b = 200 ∧ j = 17
    · exfalso; rw [q.1, (h1 200 (by decide) (by decide)).1] at e; exact absurd e (by decide +kernel)
    · rw [jst_o q]; exact (hB b e).2 j j0
theorem dy_200_32 (hS : Sh S h) : isX3 (h 200 32) := hS.2.2.2.2.2.2.1
theorem Sh_dy_200_32 (hS : Sh S h) (hv : isX3 v) : Sh S (jst h 200 32 v) := by
  obtain ⟨h1, h2, h3, h5, y0, y1, y2, y3, y4, y5, h9, hB⟩ := hS
  refine ⟨fun b b1 b2 => ?_, fun b j hb => ?_, fun b j b1 b2 => ?_, fun b b1 b2 => ?_, ?_, ?_, ?_, ?_, ?_, ?_, ?_, fun b e => ?_⟩
  · rw [jst_m (by decide) (by decide), jst_m (by decide) (by decide)]; exact h1 b b1 b2
  · rw [jst_o (fun ⟨e1, e2⟩ => hb (by rw [e1, e2]; decide +kernel))]; exact h2 b j hb
  · rw [jst_ne (by omega)]; exact h3 b j b1 b2
  · rw [jst_m (by decide) (by decide)] at b1 b2; exact h5 b b1 b2
  · rw [jst_ni (by decide)]; exact y0
  · rw [jst_ni (by decide)]; exact y1
  · rw [jst_eq]; exact hv
  · rw [jst_ni (by decide)]; exact y3
  · rw [jst_ni (by decide)]; exact y4
  · rw [jst_ni (by decide)]; exact y5
  · rw [jst_ne (by omega)]; exact h9
  · rw [jst_m (by decide) (by decide)] at e
    refine ⟨(hB b e).1, fun j j0 => ?_⟩
    by_cases q : b = 200 ∧ j = 32
    · exfalso; rw [q.1, (h1 200 (by decide) (by decide)).1] at e; exact absurd e (by decide +kernel)
    · rw [jst_o q]; exact (hB b e).2 j j0
theorem dy_200_33 (hS : Sh S h) : isX3 (h 200 33) := hS.2.2.2.2.2.2.2.1
theorem Sh_dy_200_33 (hS : Sh S h) (hv : isX3 v) : Sh S (jst h 200 33 v) := by
  obtain ⟨h1, h2, h3, h5, y0, y1, y2, y3, y4, y5, h9, hB⟩ := hS
  refine ⟨fun b b1 b2 => ?_, fun b j hb => ?_, fun b j b1 b2 => ?_, fun b b1 b2 => ?_, ?_, ?_, ?_, ?_, ?_, ?_, ?_, fun b e => ?_⟩
  · rw [jst_m (by decide) (by decide), jst_m (by decide) (by decide)]; exact h1 b b1 b2
  · rw [jst_o (fun ⟨e1, e2⟩ => hb (by rw [e1, e2]; decide +kernel))]; exact h2 b j hb
  · rw [jst_ne (by omega)]; exact h3 b j b1 b2
  · rw [jst_m (by decide) (by decide)] at b1 b2; exact h5 b b1 b2
  · rw [jst_ni (by decide)]; exact y0
  · rw [jst_ni (by decide)]; exact y1
  · rw [jst_ni (by decide)]; exact y2
  · rw [jst_eq]; exact hv
  · rw [jst_ni (by decide)]; exact y4
  · rw [jst_ni (by decide)]; exact y5
  · rw [jst_ne (by omega)]; exact h9
  · rw [jst_m (by decide) (by decide)] at e
    refine ⟨(hB b e).1, fun j j0 => ?_⟩
    by_cases q : b = 200 ∧ j = 33
    · exfalso; rw [q.1, (h1 200 (by decide) (by decide)).1] at e; exact absurd e (by decide +kernel)
    · rw [jst_o q]; exact (hB b e).2 j j0
theorem dy_200_39 (hS : Sh S h) : isX8 (h 200 39) := hS.2.2.2.2.2.2.2.2.1
theorem Sh_dy_200_39 (hS : Sh S h) (hv : isX8 v) : Sh S (jst h 200 39 v) := by
  obtain ⟨h1, h2, h3, h5, y0, y1, y2, y3, y4, y5, h9, hB⟩ := hS
  refine ⟨fun b b1 b2 => ?_, fun b j hb => ?_, fun b j b1 b2 => ?_, fun b b1 b2 => ?_, ?_, ?_, ?_, ?_, ?_, ?_, ?_, fun b e => ?_⟩
  · rw [jst_m (by decide) (by decide), jst_m (by decide) (by decide)]; exact h1 b b1 b2
  · rw [jst_o (fun ⟨e1, e2⟩ => hb (by rw [e1, e2]; decide +kernel))]; exact h2 b j hb
  · rw [jst_ne (by omega)]; exact h3 b j b1 b2
  · rw [jst_m (by decide) (by decide)] at b1 b2; exact h5 b b1 b2
  · rw [jst_ni (by decide)]; exact y0
  · rw [jst_ni (by decide)]; exact y1
  · rw [jst_ni (by decide)]; exact y2
  · rw [jst_ni (by decide)]; exact y3
  · rw [jst_eq]; exact hv
  · rw [jst_ni (by decide)]; exact y5
  · rw [jst_ne (by omega)]; exact h9
  · rw [jst_m (by decide) (by decide)] at e
    refine ⟨(hB b e).1, fun j j0 => ?_⟩
    by_cases q : b = 200 ∧ j = 39
    · exfalso; rw [q.1, (h1 200 (by decide) (by decide)).1] at e; exact absurd e (by decide +kernel)
    · rw [jst_o q]; exact (hB b e).2 j j0
theorem dy_200_40 (hS : Sh S h) : isX8 (h 200 40) := hS.2.2.2.2.2.2.2.2.2.1
theorem Sh_dy_200_40 (hS : Sh S h) (hv : isX8 v) : Sh S (jst h 200 40 v) := by
  obtain ⟨h1, h2, h3, h5, y0, y1, y2, y3, y4, y5, h9, hB⟩ := hS
  refine ⟨fun b b1 b2 => ?_, fun b j hb => ?_, fun b j b1 b2 => ?_, fun b b1 b2 => ?_, ?_, ?_, ?_, ?_, ?_, ?_, ?_, fun b e => ?_⟩
  · rw [jst_m (by decide) (by decide), jst_m (by decide) (by decide)]; exact h1 b b1 b2
  · rw [jst_o (fun ⟨e1, e2⟩ => hb (by rw [e1, e2]; decide +kernel))]; exact h2 b j hb
  · rw [jst_ne (by omega)]; exact h3 b j b1 b2
  · rw [jst_m (by decide) (by decide)] at b1 b2; exact h5 b b1 b2
  · rw [jst_ni (by decide)]; exact y0
  · rw [jst_ni (by decide)]; exact y1
  · rw [jst_ni (by decide)]; exact y2
  · rw [jst_ni (by decide)]; exact y3
  · rw [jst_ni (by decide)]; exact y4
  · rw [jst_eq]; exact hv
  · rw [jst_ne (by omega)]; exact h9
  · rw [jst_m (by decide) (by decide)] at e
    refine ⟨(hB b e).1, fun j j0 => ?_⟩
    by_cases q : b = 200 ∧ j = 40
    · exfalso; rw [q.1, (h1 200 (by decide) (by decide)).1] at e; exact absurd e (by decide +kernel)
    · rw [jst_o q]; exact (hB b e).2 j j0
theorem Sh_sto_X16_12 {T : Int} (hS : Sh S h) (hT : isX16 T) : Sh S (jst h T 12 v) := by
  rcases hT with rfl | rfl <;> exact Sh_sto hS (by decide +kernel)
theorem Sh_sto_X16_17 {T : Int} (hS : Sh S h) (hT : isX16 T) : Sh S (jst h T 17 v) := by
  rcases hT with rfl | rfl <;> exact Sh_sto hS (by decide +kernel)
theorem Sh_sto_X16_18 {T : Int} (hS : Sh S h) (hT : isX16 T) : Sh S (jst h T 18 v) := by
  rcases hT with rfl | rfl <;> exact Sh_sto hS (by decide +kernel)
theorem Sh_sto_X16_20 {T : Int} (hS : Sh S h) (hT : isX16 T) : Sh S (jst h T 20 v) := by
  rcases hT with rfl | rfl <;> exact Sh_sto hS (by decide +kernel)
theorem Sh_sto_X16_26 {T : Int} (hS : Sh S h) (hT : isX16 T) : Sh S (jst h T 26 v) := by
  rcases hT with rfl | rfl <;> exact Sh_sto hS (by decide +kernel)
theorem Sh_sto_X16_27 {T : Int} (hS : Sh S h) (hT : isX16 T) : Sh S (jst h T 27 v) := by
  rcases hT with rfl | rfl <;> exact Sh_sto hS (by decide +kernel)
theorem Sh_sto_X16_3 {T : Int} (hS : Sh S h) (hT : isX16 T) : Sh S (jst h T 3 v) := by
  rcases hT with rfl | rfl <;> exact Sh_sto hS (by decide +kernel)
theorem Sh_sto_X16_4 {T : Int} (hS : Sh S h) (hT : isX16 T) : Sh S (jst h T 4 v) := by
  rcases hT with rfl | rfl <;> exact Sh_sto hS (by decide +kernel)
theorem Sh_sto_X16_5 {T : Int} (hS : Sh S h) (hT : isX16 T) : Sh S (jst h T 5 v) := by
  rcases hT with rfl | rfl <;> exact Sh_sto hS (by decide +kernel)
theorem Sh_sto_X16_9 {T : Int} (hS : Sh S h) (hT : isX16 T) : Sh S (jst h T 9 v) := by
  rcases hT with rfl | rfl <;> exact Sh_sto hS (by decide +kernel)
theorem Sh_sto_X17_2 {T : Int} (hS : Sh S h) (hT : isX17 T) : Sh S (jst h T 2 v) := by
  rcases hT with rfl | rfl <;> exact Sh_sto hS (by decide +kernel)
theorem Sh_sto_X17_4 {T : Int} (hS : Sh S h) (hT : isX17 T) : Sh S (jst h T 4 v) := by
  rcases hT with rfl | rfl <;> exact Sh_sto hS (by decide +kernel)
theorem Sh_sto_X17_6 {T : Int} (hS : Sh S h) (hT : isX17 T) : Sh S (jst h T 6 v) := by
  rcases hT with rfl | rfl <;> exact Sh_sto hS (by decide +kernel)
theorem Sh_sto_X17_8 {T : Int} (hS : Sh S h) (hT : isX17 T) : Sh S (jst h T 8 v) := by
  rcases hT with rfl | rfl <;> exact Sh_sto hS (by decide +kernel)
theorem Sh_sto_X3_0 {T : Int} (hS : Sh S h) (hT : isX3 T) : Sh S (jst h T 0 v) := by
  rcases hT with rfl | rfl | rfl | rfl | rfl | rfl | rfl | rfl | rfl | rfl | rfl <;> exact Sh_sto hS (by decide +kernel)
theorem Sh_sto_X4_1 {T : Int} (hS : Sh S h) (hT : isX4 T) : Sh S (jst h T 1 v) := by
  rcases hT with rfl | rfl <;> exact Sh_sto hS (by decide +kernel)
theorem Sh_sto_X4_11 {T : Int} (hS : Sh S h) (hT : isX4 T) : Sh S (jst h T 11 v) := by
  rcases hT with rfl | rfl <;> exact Sh_sto hS (by decide +kernel)
theorem Sh_sto_X4_17 {T : Int} (hS : Sh S h) (hT : isX4 T) : Sh S (jst h T 17 v) := by
  rcases hT with rfl | rfl <;> exact Sh_sto hS (by decide +kernel)
theorem Sh_sto_X4_18 {T : Int} (hS : Sh S h) (hT : isX4 T) : Sh S (jst h T 18 v) := by
  rcases hT with rfl | rfl <;> exact Sh_sto hS (by decide +kernel)
theorem Sh_sto_X4_19 {T : Int} (hS : Sh S h) (hT : isX4 T) : Sh S (jst h T 19 v) := by
  rcases hT with rfl | rfl <;> exact Sh_sto hS (by decide +kernel)
theorem Sh_sto_X4_2 {T : Int} (hS : Sh S h) (hT : isX4 T) : Sh S (jst h T 2 v) := by
  rcases hT with rfl | rfl <;> exact Sh_sto hS (by decide +kernel)
theorem Sh_sto_X4_3 {T : Int} (hS : Sh S h) (hT : isX4 T) : Sh S (jst h T 3 v) := by
  rcases hT with rfl | rfl <;> exact Sh_sto hS (by decide +kernel)
theorem Sh_sto_X4_8 {T : Int} (hS : Sh S h) (hT : isX4 T) : Sh S (jst h T 8 v) := by
  rcases hT with rfl | rfl <;> exact Sh_sto hS (by decide +kernel)
theorem Sh_sto_X6_1 {T : Int} (hS : Sh S h) (hT : isX6 T) : Sh S (jst h T 1 v) := by
  rcases hT with rfl | rfl | rfl | rfl | rfl | rfl <;> exact Sh_sto hS (by decide +kernel)
theorem Sh_sto_X8_1 {T : Int} (hS : Sh S h) (hT : isX8 T) : Sh S (jst h T 1 v) := by
  rcases hT with rfl | rfl <;> exact Sh_sto hS (by decide +kernel)
theorem Sh_sto_X8_10 {T : Int} (hS : Sh S h) (hT : isX8 T) : Sh S (jst h T 10 v) := by
  rcases hT with rfl | rfl <;> exact Sh_sto hS (by decide +kernel)
theorem Sh_sto_X8_2 {T : Int} (hS : Sh S h) (hT : isX8 T) : Sh S (jst h T 2 v) := by
  rcases hT with rfl | rfl <;> exact Sh_sto hS (by decide +kernel)
theorem Sh_sto_X8_6 {T : Int} (hS : Sh S h) (hT : isX8 T) : Sh S (jst h T 6 v) := by
  rcases hT with rfl | rfl <;> exact Sh_sto hS (by decide +kernel)
theorem Sh_sto_X8_7 {T : Int} (hS : Sh S h) (hT : isX8 T) : Sh S (jst h T 7 v) := by
  rcases hT with rfl | rfl <;> exact Sh_sto hS (by decide +kernel)
theorem Sh_sto_X8_9 {T : Int} (hS : Sh S h) (hT : isX8 T) : Sh S (jst h T 9 v) := by
  rcases hT with rfl | rfl <;> exact Sh_sto hS (by decide +kernel)
theorem ara_X16_10 {T : Int} (hT : isX16 T) : ar (T + 5) = true := by
  rcases hT with rfl | rfl <;> decide +kernel
theorem ara_X16_11 {T : Int} (hT : isX16 T) : ar (T + 6) = true := by
  rcases hT with rfl | rfl <;> decide +kernel
theorem ara_X16_13 {T : Int} (hT : isX16 T) : ar (T + 7) = true := by
  rcases hT with rfl | rfl <;> decide +kernel
theorem ara_X16_14 {T : Int} (hT : isX16 T) : ar (T + 8) = true := by
  rcases hT with rfl | rfl <;> decide +kernel
theorem ara_X16_15 {T : Int} (hT : isX16 T) : ar (T + 9) = true := by
  rcases hT with rfl | rfl <;> decide +kernel
theorem ara_X16_16 {T : Int} (hT : isX16 T) : ar (T + 10) = true := by
  rcases hT with rfl | rfl <;> decide +kernel
theorem ara_X16_21 {T : Int} (hT : isX16 T) : ar (T + 12) = true := by
  rcases hT with rfl | rfl <;> decide +kernel
theorem ara_X16_22 {T : Int} (hT : isX16 T) : ar (T + 13) = true := by
  rcases hT with rfl | rfl <;> decide +kernel
theorem ara_X16_23 {T : Int} (hT : isX16 T) : ar (T + 14) = true := by
  rcases hT with rfl | rfl <;> decide +kernel
theorem ara_X16_24 {T : Int} (hT : isX16 T) : ar (T + 15) = true := by
  rcases hT with rfl | rfl <;> decide +kernel
theorem ara_X16_6 {T : Int} (hT : isX16 T) : ar (T + 2) = true := by
  rcases hT with rfl | rfl <;> decide +kernel
theorem ara_X16_7 {T : Int} (hT : isX16 T) : ar (T + 3) = true := by
  rcases hT with rfl | rfl <;> decide +kernel
theorem ara_X16_8 {T : Int} (hT : isX16 T) : ar (T + 4) = true := by
  rcases hT with rfl | rfl <;> decide +kernel
theorem ara_X17_3 {T : Int} (hT : isX17 T) : ar (T + 2) = true := by
  rcases hT with rfl | rfl <;> decide +kernel
theorem ara_X3_1 {T : Int} (hT : isX3 T) : ar (T + 1) = true := by
  rcases hT with rfl | rfl | rfl | rfl | rfl | rfl | rfl | rfl | rfl | rfl | rfl <;> decide +kernel
theorem ara_X3_2 {T : Int} (hT : isX3 T) : ar (T + 2) = true := by
  rcases hT with rfl | rfl | rfl | rfl | rfl | rfl | rfl | rfl | rfl | rfl | rfl <;> decide +kernel
theorem ara_X3_3 {T : Int} (hT : isX3 T) : ar (T + 3) = true := by
  rcases hT with rfl | rfl | rfl | rfl | rfl | rfl | rfl | rfl | rfl | rfl | rfl <;> decide +kernel
theorem ara_X3_4 {T : Int} (hT : isX3 T) : ar (T + 5) = true := by
  rcases hT with rfl | rfl | rfl | rfl | rfl | rfl | rfl | rfl | rfl | rfl | rfl <;> decide +kernel
theorem ara_X3_5 {T : Int} (hT : isX3 T) : ar (T + 4) = true := by
  rcases hT with rfl | rfl | rfl | rfl | rfl | rfl | rfl | rfl | rfl | rfl | rfl <;> decide +kernel
theorem ara_X4_0 {T : Int} (hT : isX4 T) : ar (T + 1) = true := by
  rcases hT with rfl | rfl <;> decide +kernel
theorem ara_X4_10 {T : Int} (hT : isX4 T) : ar (T + 7) = true := by
  rcases hT with rfl | rfl <;> decide +kernel
theorem ara_X4_12 {T : Int} (hT : isX4 T) : ar (T + 8) = true := by
  rcases hT with rfl | rfl <;> decide +kernel
theorem ara_X4_13 {T : Int} (hT : isX4 T) : ar (T + 9) = true := by
  rcases hT with rfl | rfl <;> decide +kernel
theorem ara_X4_14 {T : Int} (hT : isX4 T) : ar (T + 10) = true := by
  rcases hT with rfl | rfl <;> decide +kernel
theorem ara_X4_15 {T : Int} (hT : isX4 T) : ar (T + 11) = true := by
  rcases hT with rfl | rfl <;> decide +kernel
theorem ara_X4_6 {T : Int} (hT : isX4 T) : ar (T + 4) = true := by
  rcases hT with rfl | rfl <;> decide +kernel
theorem ara_X4_7 {T : Int} (hT : isX4 T) : ar (T + 5) = true := by
  rcases hT with rfl | rfl <;> decide +kernel
theorem ara_X4_9 {T : Int} (hT : isX4 T) : ar (T + 6) = true := by
  rcases hT with rfl | rfl <;> decide +kernel
theorem ara_X6_0 {T : Int} (hT : isX6 T) : ar (T + 1) = true := by
  rcases hT with rfl | rfl | rfl | rfl | rfl | rfl <;> decide +kernel
theorem ara_X8_0 {T : Int} (hT : isX8 T) : ar (T + 1) = true := by
  rcases hT with rfl | rfl <;> decide +kernel
theorem ara_X8_12 {T : Int} (hT : isX8 T) : ar (T + 12) = true := by
  rcases hT with rfl | rfl <;> decide +kernel
theorem ara_X8_3 {T : Int} (hT : isX8 T) : ar (T + 2) = true := by
  rcases hT with rfl | rfl <;> decide +kernel
theorem ara_X8_4 {T : Int} (hT : isX8 T) : ar (T + 3) = true := by
  rcases hT with rfl | rfl <;> decide +kernel
theorem ara_X8_5 {T : Int} (hT : isX8 T) : ar (T + 4) = true := by
  rcases hT with rfl | rfl <;> decide +kernel
theorem arr_755_n : ∀ n : Nat, n < 13 → ar (756 + (n : Int)) = true := by decide +kernel
theorem arr_755 (hi : jI i 13) : ar (756 + i) = true := by
  unfold jI at hi
  obtain ⟨n, rfl⟩ : ∃ n : Nat, i = (n : Int) := ⟨i.toNat, by omega⟩
  exact arr_755_n n (by omega)
theorem arr_829_n : ∀ n : Nat, n < 5 → ar (830 + (n : Int)) = true := by decide +kernel
theorem arr_829 (hi : jI i 5) : ar (830 + i) = true := by
  unfold jI at hi
  obtain ⟨n, rfl⟩ : ∃ n : Nat, i = (n : Int) := ⟨i.toNat, by omega⟩
  exact arr_829_n n (by omega)
theorem arr_835_n : ∀ n : Nat, n < 5 → ar (836 + (n : Int)) = true := by decide +kernel
theorem arr_835 (hi : jI i 5) : ar (836 + i) = true := by
  unfold jI at hi
  obtain ⟨n, rfl⟩ : ∃ n : Nat, i = (n : Int) := ⟨i.toNat, by omega⟩
  exact arr_835_n n (by omega)
theorem arr_851_n : ∀ n : Nat, n < 9 → ar (852 + (n : Int)) = true := by decide +kernel
theorem arr_851 (hi : jI i 9) : ar (852 + i) = true := by
  unfold jI at hi
  obtain ⟨n, rfl⟩ : ∃ n : Nat, i = (n : Int) := ⟨i.toNat, by omega⟩
  exact arr_851_n n (by omega)
theorem arr_861_n : ∀ n : Nat, n < 9 → ar (862 + (n : Int)) = true := by decide +kernel
theorem arr_861 (hi : jI i 9) : ar (862 + i) = true := by
  unfold jI at hi
  obtain ⟨n, rfl⟩ : ∃ n : Nat, i = (n : Int) := ⟨i.toNat, by omega⟩
  exact arr_861_n n (by omega)
theorem arr_873_n : ∀ n : Nat, n < 201 → ar (874 + (n : Int)) = true := by decide +kernel
theorem arr_873 (hi : jI i 201) : ar (874 + i) = true := by
  unfold jI at hi
  obtain ⟨n, rfl⟩ : ∃ n : Nat, i = (n : Int) := ⟨i.toNat, by omega⟩
  exact arr_873_n n (by omega)
theorem arro_X16_25_n476 : ∀ n : Nat, n < 122 → ar (493 + (n : Int)) = true := by decide +kernel
theorem arro_X16_25_n615 : ∀ n : Nat, n < 122 → ar (632 + (n : Int)) = true := by decide +kernel
theorem arro_X16_25 {T : Int} (hT : isX16 T) (hi : jI i 122) : ar (T + 17 + i) = true := by
  unfold jI at hi
  obtain ⟨n, rfl⟩ : ∃ n : Nat, i = (n : Int) := ⟨i.toNat, by omega⟩
  rcases hT with rfl | rfl
  · exact arro_X16_25_n476 n (by omega)
  · exact arro_X16_25_n615 n (by omega)
theorem ft_X16_10 {T : Int} (hS : Sh S h) (hT : isX16 T) : h T 10 = T + 5 := by
  rcases hT with rfl | rfl <;> exact Sh_fix hS (by decide) (by decide +kernel)
theorem ft_X16_11 {T : Int} (hS : Sh S h) (hT : isX16 T) : h T 11 = T + 6 := by
  rcases hT with rfl | rfl <;> exact Sh_fix hS (by decide) (by decide +kernel)
theorem ft_X16_13 {T : Int} (hS : Sh S h) (hT : isX16 T) : h T 13 = T + 7 := by
  rcases hT with rfl | rfl <;> exact Sh_fix hS (by decide) (by decide +kernel)
theorem ft_X16_14 {T : Int} (hS : Sh S h) (hT : isX16 T) : h T 14 = T + 8 := by
  rcases hT with rfl | rfl <;> exact Sh_fix hS (by decide) (by decide +kernel)
theorem ft_X16_15 {T : Int} (hS : Sh S h) (hT : isX16 T) : h T 15 = T + 9 := by
  rcases hT with rfl | rfl <;> exact Sh_fix hS (by decide) (by decide +kernel)
theorem ft_X16_16 {T : Int} (hS : Sh S h) (hT : isX16 T) : h T 16 = T + 10 := by
  rcases hT with rfl | rfl <;> exact Sh_fix hS (by decide) (by decide +kernel)
theorem ft_X16_19 {T : Int} (hS : Sh S h) (hT : isX16 T) : h T 19 = T + 11 := by
  rcases hT with rfl | rfl <;> exact Sh_fix hS (by decide) (by decide +kernel)
theorem ft_X16_2 {T : Int} (hS : Sh S h) (hT : isX16 T) : h T 2 = T + 1 := by
  rcases hT with rfl | rfl <;> exact Sh_fix hS (by decide) (by decide +kernel)
theorem ft_X16_21 {T : Int} (hS : Sh S h) (hT : isX16 T) : h T 21 = T + 12 := by
  rcases hT with rfl | rfl <;> exact Sh_fix hS (by decide) (by decide +kernel)
theorem ft_X16_22 {T : Int} (hS : Sh S h) (hT : isX16 T) : h T 22 = T + 13 := by
  rcases hT with rfl | rfl <;> exact Sh_fix hS (by decide) (by decide +kernel)
theorem ft_X16_23 {T : Int} (hS : Sh S h) (hT : isX16 T) : h T 23 = T + 14 := by
  rcases hT with rfl | rfl <;> exact Sh_fix hS (by decide) (by decide +kernel)
theorem ft_X16_24 {T : Int} (hS : Sh S h) (hT : isX16 T) : h T 24 = T + 15 := by
  rcases hT with rfl | rfl <;> exact Sh_fix hS (by decide) (by decide +kernel)
theorem ft_X16_25 {T : Int} (hS : Sh S h) (hT : isX16 T) : h T 25 = T + 16 := by
  rcases hT with rfl | rfl <;> exact Sh_fix hS (by decide) (by decide +kernel)
theorem ft_X16_6 {T : Int} (hS : Sh S h) (hT : isX16 T) : h T 6 = T + 2 := by
  rcases hT with rfl | rfl <;> exact Sh_fix hS (by decide) (by decide +kernel)
theorem ft_X16_7 {T : Int} (hS : Sh S h) (hT : isX16 T) : h T 7 = T + 3 := by
  rcases hT with rfl | rfl <;> exact Sh_fix hS (by decide) (by decide +kernel)
theorem ft_X16_8 {T : Int} (hS : Sh S h) (hT : isX16 T) : h T 8 = T + 4 := by
  rcases hT with rfl | rfl <;> exact Sh_fix hS (by decide) (by decide +kernel)
theorem ft_X17_1 {T : Int} (hS : Sh S h) (hT : isX17 T) : h T 1 = T + 1 := by
  rcases hT with rfl | rfl <;> exact Sh_fix hS (by decide) (by decide +kernel)
theorem ft_X17_3 {T : Int} (hS : Sh S h) (hT : isX17 T) : h T 3 = T + 2 := by
  rcases hT with rfl | rfl <;> exact Sh_fix hS (by decide) (by decide +kernel)
theorem ft_X17_5 {T : Int} (hS : Sh S h) (hT : isX17 T) : h T 5 = T + 3 := by
  rcases hT with rfl | rfl <;> exact Sh_fix hS (by decide) (by decide +kernel)
theorem ft_X17_7 {T : Int} (hS : Sh S h) (hT : isX17 T) : h T 7 = T + 4 := by
  rcases hT with rfl | rfl <;> exact Sh_fix hS (by decide) (by decide +kernel)
theorem ft_X3_1 {T : Int} (hS : Sh S h) (hT : isX3 T) : h T 1 = T + 1 := by
  rcases hT with rfl | rfl | rfl | rfl | rfl | rfl | rfl | rfl | rfl | rfl | rfl <;> exact Sh_fix hS (by decide) (by decide +kernel)
theorem ft_X3_2 {T : Int} (hS : Sh S h) (hT : isX3 T) : h T 2 = T + 2 := by
  rcases hT with rfl | rfl | rfl | rfl | rfl | rfl | rfl | rfl | rfl | rfl | rfl <;> exact Sh_fix hS (by decide) (by decide +kernel)
theorem ft_X3_3 {T : Int} (hS : Sh S h) (hT : isX3 T) : h T 3 = T + 3 := by
  rcases hT with rfl | rfl | rfl | rfl | rfl | rfl | rfl | rfl | rfl | rfl | rfl <;> exact Sh_fix hS (by decide) (by decide +kernel)
theorem ft_X3_4 {T : Int} (hS : Sh S h) (hT : isX3 T) : h T 4 = T + 5 := by
  rcases hT with rfl | rfl | rfl | rfl | rfl | rfl | rfl | rfl | rfl | rfl | rfl <;> exact Sh_fix hS (by decide) (by decide +kernel)
theorem ft_X3_5 {T : Int} (hS : Sh S h) (hT : isX3 T) : h T 5 = T + 4 := by
  rcases hT with rfl | rfl | rfl | rfl | rfl | rfl | rfl | rfl | rfl | rfl | rfl <;> exact Sh_fix hS (by decide) (by decide +kernel)
theorem ft_X4_0 {T : Int} (hS : Sh S h) (hT : isX4 T) : h T 0 = T + 1 := by
  rcases hT with rfl | rfl <;> exact Sh_fix hS (by decide) (by decide +kernel)
theorem ft_X4_10 {T : Int} (hS : Sh S h) (hT : isX4 T) : h T 10 = T + 7 := by
  rcases hT with rfl | rfl <;> exact Sh_fix hS (by decide) (by decide +kernel)
theorem ft_X4_12 {T : Int} (hS : Sh S h) (hT : isX4 T) : h T 12 = T + 8 := by
  rcases hT with rfl | rfl <;> exact Sh_fix hS (by decide) (by decide +kernel)
theorem ft_X4_13 {T : Int} (hS : Sh S h) (hT : isX4 T) : h T 13 = T + 9 := by
  rcases hT with rfl | rfl <;> exact Sh_fix hS (by decide) (by decide +kernel)
theorem ft_X4_14 {T : Int} (hS : Sh S h) (hT : isX4 T) : h T 14 = T + 10 := by
  rcases hT with rfl | rfl <;> exact Sh_fix hS (by decide) (by decide +kernel)
theorem ft_X4_15 {T : Int} (hS : Sh S h) (hT : isX4 T) : h T 15 = T + 11 := by
  rcases hT with rfl | rfl <;> exact Sh_fix hS (by decide) (by decide +kernel)
theorem ft_X4_16 {T : Int} (hS : Sh S h) (hT : isX4 T) : h T 16 = T + 12 := by
  rcases hT with rfl | rfl <;> exact Sh_fix hS (by decide) (by decide +kernel)
theorem ft_X4_4 {T : Int} (hS : Sh S h) (hT : isX4 T) : h T 4 = T + 2 := by
  rcases hT with rfl | rfl <;> exact Sh_fix hS (by decide) (by decide +kernel)
theorem ft_X4_5 {T : Int} (hS : Sh S h) (hT : isX4 T) : h T 5 = T + 3 := by
  rcases hT with rfl | rfl <;> exact Sh_fix hS (by decide) (by decide +kernel)
theorem ft_X4_6 {T : Int} (hS : Sh S h) (hT : isX4 T) : h T 6 = T + 4 := by
  rcases hT with rfl | rfl <;> exact Sh_fix hS (by decide) (by decide +kernel)
theorem ft_X4_7 {T : Int} (hS : Sh S h) (hT : isX4 T) : h T 7 = T + 5 := by
  rcases hT with rfl | rfl <;> exact Sh_fix hS (by decide) (by decide +kernel)
theorem ft_X4_9 {T : Int} (hS : Sh S h) (hT : isX4 T) : h T 9 = T + 6 := by
  rcases hT with rfl | rfl <;> exact Sh_fix hS (by decide) (by decide +kernel)
theorem ft_X6_0 {T : Int} (hS : Sh S h) (hT : isX6 T) : h T 0 = T + 1 := by
  rcases hT with rfl | rfl | rfl | rfl | rfl | rfl <;> exact Sh_fix hS (by decide) (by decide +kernel)
theorem ft_X8_0 {T : Int} (hS : Sh S h) (hT : isX8 T) : h T 0 = T + 1 := by
  rcases hT with rfl | rfl <;> exact Sh_fix hS (by decide) (by decide +kernel)
theorem ft_X8_11 {T : Int} (hS : Sh S h) (hT : isX8 T) : h T 11 = T + 11 := by
  rcases hT with rfl | rfl <;> exact Sh_fix hS (by decide) (by decide +kernel)
theorem ft_X8_12 {T : Int} (hS : Sh S h) (hT : isX8 T) : h T 12 = T + 12 := by
  rcases hT with rfl | rfl <;> exact Sh_fix hS (by decide) (by decide +kernel)
theorem ft_X8_3 {T : Int} (hS : Sh S h) (hT : isX8 T) : h T 3 = T + 2 := by
  rcases hT with rfl | rfl <;> exact Sh_fix hS (by decide) (by decide +kernel)
theorem ft_X8_4 {T : Int} (hS : Sh S h) (hT : isX8 T) : h T 4 = T + 3 := by
  rcases hT with rfl | rfl <;> exact Sh_fix hS (by decide) (by decide +kernel)
theorem ft_X8_5 {T : Int} (hS : Sh S h) (hT : isX8 T) : h T 5 = T + 4 := by
  rcases hT with rfl | rfl <;> exact Sh_fix hS (by decide) (by decide +kernel)
theorem ft_X8_8 {T : Int} (hS : Sh S h) (hT : isX8 T) : h T 8 = T + 5 := by
  rcases hT with rfl | rfl <;> exact Sh_fix hS (by decide) (by decide +kernel)
theorem ge_X16 {T : Int} (hT : isX16 T) : 200 ≤ T := by
  rcases hT with rfl | rfl <;> decide
theorem ge_X17 {T : Int} (hT : isX17 T) : 200 ≤ T := by
  rcases hT with rfl | rfl <;> decide
theorem ge_X3 {T : Int} (hT : isX3 T) : 200 ≤ T := by
  rcases hT with rfl | rfl | rfl | rfl | rfl | rfl | rfl | rfl | rfl | rfl | rfl <;> decide
theorem ge_X4 {T : Int} (hT : isX4 T) : 200 ≤ T := by
  rcases hT with rfl | rfl <;> decide
theorem ge_X6 {T : Int} (hT : isX6 T) : 200 ≤ T := by
  rcases hT with rfl | rfl | rfl | rfl | rfl | rfl <;> decide
theorem ge_X8 {T : Int} (hT : isX8 T) : 200 ≤ T := by
  rcases hT with rfl | rfl <;> decide
theorem gea_X16_10 {T : Int} (hT : isX16 T) : 200 ≤ T + 5 := by
  rcases hT with rfl | rfl <;> decide
theorem gea_X16_11 {T : Int} (hT : isX16 T) : 200 ≤ T + 6 := by
  rcases hT with rfl | rfl <;> decide
theorem gea_X16_13 {T : Int} (hT : isX16 T) : 200 ≤ T + 7 := by
  rcases hT with rfl | rfl <;> decide
theorem gea_X16_14 {T : Int} (hT : isX16 T) : 200 ≤ T + 8 := by
  rcases hT with rfl | rfl <;> decide
theorem gea_X16_15 {T : Int} (hT : isX16 T) : 200 ≤ T + 9 := by
  rcases hT with rfl | rfl <;> decide
theorem gea_X16_16 {T : Int} (hT : isX16 T) : 200 ≤ T + 10 := by
  rcases hT with rfl | rfl <;> decide
theorem gea_X16_21 {T : Int} (hT : isX16 T) : 200 ≤ T + 12 := by
  rcases hT with rfl | rfl <;> decide
theorem gea_X16_22 {T : Int} (hT : isX16 T) : 200 ≤ T + 13 := by
  rcases hT with rfl | rfl <;> decide
theorem gea_X16_23 {T : Int} (hT : isX16 T) : 200 ≤ T + 14 := by
  rcases hT with rfl | rfl <;> decide
theorem gea_X16_24 {T : Int} (hT : isX16 T) : 200 ≤ T + 15 := by
  rcases hT with rfl | rfl <;> decide
theorem gea_X16_6 {T : Int} (hT : isX16 T) : 200 ≤ T + 2 := by
  rcases hT with rfl | rfl <;> decide
theorem gea_X16_7 {T : Int} (hT : isX16 T) : 200 ≤ T + 3 := by
  rcases hT with rfl | rfl <;> decide
theorem gea_X16_8 {T : Int} (hT : isX16 T) : 200 ≤ T + 4 := by
  rcases hT with rfl | rfl <;> decide
theorem gea_X17_3 {T : Int} (hT : isX17 T) : 200 ≤ T + 2 := by
  rcases hT with rfl | rfl <;> decide
theorem gea_X3_1 {T : Int} (hT : isX3 T) : 200 ≤ T + 1 := by
  rcases hT with rfl | rfl | rfl | rfl | rfl | rfl | rfl | rfl | rfl | rfl | rfl <;> decide
theorem gea_X3_2 {T : Int} (hT : isX3 T) : 200 ≤ T + 2 := by
  rcases hT with rfl | rfl | rfl | rfl | rfl | rfl | rfl | rfl | rfl | rfl | rfl <;> decide
theorem gea_X3_3 {T : Int} (hT : isX3 T) : 200 ≤ T + 3 := by
  rcases hT with rfl | rfl | rfl | rfl | rfl | rfl | rfl | rfl | rfl | rfl | rfl <;> decide
theorem gea_X3_4 {T : Int} (hT : isX3 T) : 200 ≤ T + 5 := by
  rcases hT with rfl | rfl | rfl | rfl | rfl | rfl | rfl | rfl | rfl | rfl | rfl <;> decide
theorem gea_X3_5 {T : Int} (hT : isX3 T) : 200 ≤ T + 4 := by
  rcases hT with rfl | rfl | rfl | rfl | rfl | rfl | rfl | rfl | rfl | rfl | rfl <;> decide
theorem gea_X4_0 {T : Int} (hT : isX4 T) : 200 ≤ T + 1 := by
  rcases hT with rfl | rfl <;> decide
theorem gea_X4_10 {T : Int} (hT : isX4 T) : 200 ≤ T + 7 := by
  rcases hT with rfl | rfl <;> decide
theorem gea_X4_12 {T : Int} (hT : isX4 T) : 200 ≤ T + 8 := by
  rcases hT with rfl | rfl <;> decide
theorem gea_X4_13 {T : Int} (hT : isX4 T) : 200 ≤ T + 9 := by
  rcases hT with rfl | rfl <;> decide
theorem gea_X4_14 {T : Int} (hT : isX4 T) : 200 ≤ T + 10 := by
  rcases hT with rfl | rfl <;> decide
theorem gea_X4_15 {T : Int} (hT : isX4 T) : 200 ≤ T + 11 := by
  rcases hT with rfl | rfl <;> decide
theorem gea_X4_6 {T : Int} (hT : isX4 T) : 200 ≤ T + 4 := by
  rcases hT with rfl | rfl <;> decide
theorem gea_X4_7 {T : Int} (hT : isX4 T) : 200 ≤ T + 5 := by
  rcases hT with rfl | rfl <;> decide
theorem gea_X4_9 {T : Int} (hT : isX4 T) : 200 ≤ T + 6 := by
  rcases hT with rfl | rfl <;> decide
theorem gea_X6_0 {T : Int} (hT : isX6 T) : 200 ≤ T + 1 := by
  rcases hT with rfl | rfl | rfl | rfl | rfl | rfl <;> decide
theorem gea_X8_0 {T : Int} (hT : isX8 T) : 200 ≤ T + 1 := by
  rcases hT with rfl | rfl <;> decide
theorem gea_X8_12 {T : Int} (hT : isX8 T) : 200 ≤ T + 12 := by
  rcases hT with rfl | rfl <;> decide
theorem gea_X8_3 {T : Int} (hT : isX8 T) : 200 ≤ T + 2 := by
  rcases hT with rfl | rfl <;> decide
theorem gea_X8_4 {T : Int} (hT : isX8 T) : 200 ≤ T + 3 := by
  rcases hT with rfl | rfl <;> decide
theorem gea_X8_5 {T : Int} (hT : isX8 T) : 200 ≤ T + 4 := by
  rcases hT with rfl | rfl <;> decide
theorem ik_X15_n : ∀ n : Nat, n < 878 → kd (200 + (n : Int)) = 16 → (200 + (n : Int) = 472) := by decide +kernel
theorem ik_X15 (hS : Sh S h) : h a (-2) = 16 ↔ a = 472 := by
  refine ⟨fun e => ?_, fun e => by rw [e]; exact (hS.1 _ (by decide) (by decide)).1.trans (by decide +kernel)⟩
  obtain ⟨b1, b2⟩ := hS.2.2.2.1 a (by omega) (by omega)
  have e2 := Sh_kd hS b1 b2
  obtain ⟨n, hn⟩ : ∃ n : Nat, a = 200 + (n : Int) := ⟨(a - 200).toNat, by omega⟩
  subst hn
  exact ik_X15_n n (by omega) (by omega)
theorem ik_X16_n : ∀ n : Nat, n < 878 → kd (200 + (n : Int)) = 17 → (200 + (n : Int) = 476 ∨ 200 + (n : Int) = 615) := by decide +kernel
theorem ik_X16 (hS : Sh S h) : h a (-2) = 17 ↔ isX16 a := by
  refine ⟨fun e => ?_, fun e => by
    rcases e with rfl | rfl <;> exact (hS.1 _ (by decide) (by decide)).1.trans (by decide +kernel)⟩
  obtain ⟨b1, b2⟩ := hS.2.2.2.1 a (by omega) (by omega)
  have e2 := Sh_kd hS b1 b2
  obtain ⟨n, hn⟩ : ∃ n : Nat, a = 200 + (n : Int) := ⟨(a - 200).toNat, by omega⟩
  subst hn
  exact ik_X16_n n (by omega) (by omega)
theorem ik_X17_n : ∀ n : Nat, n < 878 → kd (200 + (n : Int)) = 18 → (200 + (n : Int) = 805 ∨ 200 + (n : Int) = 810) := by decide +kernel
theorem ik_X17 (hS : Sh S h) : h a (-2) = 18 ↔ isX17 a := by
  refine ⟨fun e => ?_, fun e => by
    rcases e with rfl | rfl <;> exact (hS.1 _ (by decide) (by decide)).1.trans (by decide +kernel)⟩
  obtain ⟨b1, b2⟩ := hS.2.2.2.1 a (by omega) (by omega)
  have e2 := Sh_kd hS b1 b2
  obtain ⟨n, hn⟩ : ∃ n : Nat, a = 200 + (n : Int) := ⟨(a - 200).toNat, by omega⟩
  subst hn
  exact ik_X17_n n (by omega) (by omega)
theorem ik_X3_n : ∀ n : Nat, n < 878 → kd (200 + (n : Int)) = 4 → (200 + (n : Int) = 258 ∨ 200 + (n : Int) = 283 ∨ 200 + (n : Int) = 301 ∨ 200 + (n : Int) = 324 ∨ 200 + (n : Int) = 330 ∨ 200 + (n : Int) = 341 ∨ 200 + (n : Int) = 347 ∨ 200 + (n : Int) = 357 ∨ 200 + (n : Int) = 363 ∨ 200 + (n : Int) = 383 ∨ 200 + (n : Int) = 396) := by decide +kernel
theorem ik_X3 (hS : Sh S h) : h a (-2) = 4 ↔ isX3 a := by
  refine ⟨fun e => ?_, fun e => by
    rcases e with rfl | rfl | rfl | rfl | rfl | rfl | rfl | rfl | rfl | rfl | rfl <;> exact (hS.1 _ (by decide) (by decide)).1.trans (by decide +kernel)⟩
  obtain ⟨b1, b2⟩ := hS.2.2.2.1 a (by omega) (by omega)
  have e2 := Sh_kd hS b1 b2
  obtain ⟨n, hn⟩ : ∃ n : Nat, a = 200 + (n : Int) := ⟨(a - 200).toNat, by omega⟩
  subst hn
  exact ik_X3_n n (by omega) (by omega)
theorem ik_X4_n : ∀ n : Nat, n < 878 → kd (200 + (n : Int)) = 5 → (200 + (n : Int) = 271 ∨ 200 + (n : Int) = 289) := by decide +kernel
theorem ik_X4 (hS : Sh S h) : h a (-2) = 5 ↔ isX4 a := by
  refine ⟨fun e => ?_, fun e => by
    rcases e with rfl | rfl <;> exact (hS.1 _ (by decide) (by decide)).1.trans (by decide +kernel)⟩
  obtain ⟨b1, b2⟩ := hS.2.2.2.1 a (by omega) (by omega)
  have e2 := Sh_kd hS b1 b2
  obtain ⟨n, hn⟩ : ∃ n : Nat, a = 200 + (n : Int) := ⟨(a - 200).toNat, by omega⟩
  subst hn
  exact ik_X4_n n (by omega) (by omega)
theorem isof_X3 {x y : Int} (e : x = y) (q : isX3 y) : isX3 x := e ▸ q
theorem isof_X4 {x y : Int} (e : x = y) (q : isX4 y) : isX4 x := e ▸ q
theorem isof_X8 {x y : Int} (e : x = y) (q : isX8 y) : isX8 x := e ▸ q
theorem k_10 (hS : Sh S h) : h 10 (-2) = 1 := (hS.2.2.1 10 (-2) (by decide) (by decide)).trans rfl
theorem k_1075 (hS : Sh S h) : h 1075 (-2) = 101 := (hS.1 1075 (by decide) (by decide)).1.trans (by decide +kernel)
theorem k_1076 (hS : Sh S h) : h 1076 (-2) = 101 := (hS.1 1076 (by decide) (by decide)).1.trans (by decide +kernel)
theorem k_1077 (hS : Sh S h) : h 1077 (-2) = 102 := (hS.1 1077 (by decide) (by decide)).1.trans (by decide +kernel)
theorem k_14 (hS : Sh S h) : h 14 (-2) = 1 := (hS.2.2.1 14 (-2) (by decide) (by decide)).trans rfl
theorem k_16 (hS : Sh S h) : h 16 (-2) = 1 := (hS.2.2.1 16 (-2) (by decide) (by decide)).trans rfl
theorem k_18 (hS : Sh S h) : h 18 (-2) = 1 := (hS.2.2.1 18 (-2) (by decide) (by decide)).trans rfl
theorem k_20 (hS : Sh S h) : h 20 (-2) = 1 := (hS.2.2.1 20 (-2) (by decide) (by decide)).trans rfl
theorem k_200 (hS : Sh S h) : h 200 (-2) = 2 := (hS.1 200 (by decide) (by decide)).1.trans (by decide +kernel)
theorem k_201 (hS : Sh S h) : h 201 (-2) = 3 := (hS.1 201 (by decide) (by decide)).1.trans (by decide +kernel)
theorem k_203 (hS : Sh S h) : h 203 (-2) = 107 := (hS.1 203 (by decide) (by decide)).1.trans (by decide +kernel)
theorem k_204 (hS : Sh S h) : h 204 (-2) = 101 := (hS.1 204 (by decide) (by decide)).1.trans (by decide +kernel)
theorem k_205 (hS : Sh S h) : h 205 (-2) = 101 := (hS.1 205 (by decide) (by decide)).1.trans (by decide +kernel)
theorem k_22 (hS : Sh S h) : h 22 (-2) = 1 := (hS.2.2.1 22 (-2) (by decide) (by decide)).trans rfl
theorem k_24 (hS : Sh S h) : h 24 (-2) = 1 := (hS.2.2.1 24 (-2) (by decide) (by decide)).trans rfl
theorem k_258 (hS : Sh S h) : h 258 (-2) = 4 := (hS.1 258 (by decide) (by decide)).1.trans (by decide +kernel)
theorem k_26 (hS : Sh S h) : h 26 (-2) = 1 := (hS.2.2.1 26 (-2) (by decide) (by decide)).trans rfl
theorem k_264 (hS : Sh S h) : h 264 (-2) = 101 := (hS.1 264 (by decide) (by decide)).1.trans (by decide +kernel)
theorem k_265 (hS : Sh S h) : h 265 (-2) = 101 := (hS.1 265 (by decide) (by decide)).1.trans (by decide +kernel)
theorem k_266 (hS : Sh S h) : h 266 (-2) = 101 := (hS.1 266 (by decide) (by decide)).1.trans (by decide +kernel)
theorem k_267 (hS : Sh S h) : h 267 (-2) = 101 := (hS.1 267 (by decide) (by decide)).1.trans (by decide +kernel)
theorem k_268 (hS : Sh S h) : h 268 (-2) = 107 := (hS.1 268 (by decide) (by decide)).1.trans (by decide +kernel)
theorem k_269 (hS : Sh S h) : h 269 (-2) = 101 := (hS.1 269 (by decide) (by decide)).1.trans (by decide +kernel)
theorem k_270 (hS : Sh S h) : h 270 (-2) = 101 := (hS.1 270 (by decide) (by decide)).1.trans (by decide +kernel)
theorem k_28 (hS : Sh S h) : h 28 (-2) = 1 := (hS.2.2.1 28 (-2) (by decide) (by decide)).trans rfl
theorem k_30 (hS : Sh S h) : h 30 (-2) = 1 := (hS.2.2.1 30 (-2) (by decide) (by decide)).trans rfl
theorem k_307 (hS : Sh S h) : h 307 (-2) = 6 := (hS.1 307 (by decide) (by decide)).1.trans (by decide +kernel)
theorem k_308 (hS : Sh S h) : h 308 (-2) = 101 := (hS.1 308 (by decide) (by decide)).1.trans (by decide +kernel)
theorem k_309 (hS : Sh S h) : h 309 (-2) = 101 := (hS.1 309 (by decide) (by decide)).1.trans (by decide +kernel)
theorem k_310 (hS : Sh S h) : h 310 (-2) = 101 := (hS.1 310 (by decide) (by decide)).1.trans (by decide +kernel)
theorem k_311 (hS : Sh S h) : h 311 (-2) = 101 := (hS.1 311 (by decide) (by decide)).1.trans (by decide +kernel)
theorem k_312 (hS : Sh S h) : h 312 (-2) = 101 := (hS.1 312 (by decide) (by decide)).1.trans (by decide +kernel)
theorem k_313 (hS : Sh S h) : h 313 (-2) = 101 := (hS.1 313 (by decide) (by decide)).1.trans (by decide +kernel)
theorem k_314 (hS : Sh S h) : h 314 (-2) = 101 := (hS.1 314 (by decide) (by decide)).1.trans (by decide +kernel)
theorem k_315 (hS : Sh S h) : h 315 (-2) = 101 := (hS.1 315 (by decide) (by decide)).1.trans (by decide +kernel)
theorem k_316 (hS : Sh S h) : h 316 (-2) = 103 := (hS.1 316 (by decide) (by decide)).1.trans (by decide +kernel)
theorem k_317 (hS : Sh S h) : h 317 (-2) = 103 := (hS.1 317 (by decide) (by decide)).1.trans (by decide +kernel)
theorem k_32 (hS : Sh S h) : h 32 (-2) = 1 := (hS.2.2.1 32 (-2) (by decide) (by decide)).trans rfl
theorem k_320 (hS : Sh S h) : h 320 (-2) = 101 := (hS.1 320 (by decide) (by decide)).1.trans (by decide +kernel)
theorem k_321 (hS : Sh S h) : h 321 (-2) = 102 := (hS.1 321 (by decide) (by decide)).1.trans (by decide +kernel)
theorem k_322 (hS : Sh S h) : h 322 (-2) = 102 := (hS.1 322 (by decide) (by decide)).1.trans (by decide +kernel)
theorem k_323 (hS : Sh S h) : h 323 (-2) = 101 := (hS.1 323 (by decide) (by decide)).1.trans (by decide +kernel)
theorem k_324 (hS : Sh S h) : h 324 (-2) = 4 := (hS.1 324 (by decide) (by decide)).1.trans (by decide +kernel)
theorem k_325 (hS : Sh S h) : h 325 (-2) = 101 := (hS.1 325 (by decide) (by decide)).1.trans (by decide +kernel)
theorem k_326 (hS : Sh S h) : h 326 (-2) = 101 := (hS.1 326 (by decide) (by decide)).1.trans (by decide +kernel)
theorem k_327 (hS : Sh S h) : h 327 (-2) = 101 := (hS.1 327 (by decide) (by decide)).1.trans (by decide +kernel)
theorem k_330 (hS : Sh S h) : h 330 (-2) = 4 := (hS.1 330 (by decide) (by decide)).1.trans (by decide +kernel)
theorem k_333 (hS : Sh S h) : h 333 (-2) = 101 := (hS.1 333 (by decide) (by decide)).1.trans (by decide +kernel)
theorem k_336 (hS : Sh S h) : h 336 (-2) = 7 := (hS.1 336 (by decide) (by decide)).1.trans (by decide +kernel)
theorem k_337 (hS : Sh S h) : h 337 (-2) = 103 := (hS.1 337 (by decide) (by decide)).1.trans (by decide +kernel)
theorem k_338 (hS : Sh S h) : h 338 (-2) = 101 := (hS.1 338 (by decide) (by decide)).1.trans (by decide +kernel)
theorem k_339 (hS : Sh S h) : h 339 (-2) = 101 := (hS.1 339 (by decide) (by decide)).1.trans (by decide +kernel)
theorem k_34 (hS : Sh S h) : h 34 (-2) = 1 := (hS.2.2.1 34 (-2) (by decide) (by decide)).trans rfl
theorem k_340 (hS : Sh S h) : h 340 (-2) = 101 := (hS.1 340 (by decide) (by decide)).1.trans (by decide +kernel)
theorem k_353 (hS : Sh S h) : h 353 (-2) = 101 := (hS.1 353 (by decide) (by decide)).1.trans (by decide +kernel)
theorem k_354 (hS : Sh S h) : h 354 (-2) = 101 := (hS.1 354 (by decide) (by decide)).1.trans (by decide +kernel)
theorem k_355 (hS : Sh S h) : h 355 (-2) = 101 := (hS.1 355 (by decide) (by decide)).1.trans (by decide +kernel)
theorem k_356 (hS : Sh S h) : h 356 (-2) = 8 := (hS.1 356 (by decide) (by decide)).1.trans (by decide +kernel)
theorem k_357 (hS : Sh S h) : h 357 (-2) = 4 := (hS.1 357 (by decide) (by decide)).1.trans (by decide +kernel)
theorem k_358 (hS : Sh S h) : h 358 (-2) = 101 := (hS.1 358 (by decide) (by decide)).1.trans (by decide +kernel)
theorem k_359 (hS : Sh S h) : h 359 (-2) = 101 := (hS.1 359 (by decide) (by decide)).1.trans (by decide +kernel)
theorem k_36 (hS : Sh S h) : h 36 (-2) = 1 := (hS.2.2.1 36 (-2) (by decide) (by decide)).trans rfl
theorem k_363 (hS : Sh S h) : h 363 (-2) = 4 := (hS.1 363 (by decide) (by decide)).1.trans (by decide +kernel)
theorem k_366 (hS : Sh S h) : h 366 (-2) = 101 := (hS.1 366 (by decide) (by decide)).1.trans (by decide +kernel)
theorem k_369 (hS : Sh S h) : h 369 (-2) = 7 := (hS.1 369 (by decide) (by decide)).1.trans (by decide +kernel)
theorem k_370 (hS : Sh S h) : h 370 (-2) = 103 := (hS.1 370 (by decide) (by decide)).1.trans (by decide +kernel)
theorem k_371 (hS : Sh S h) : h 371 (-2) = 7 := (hS.1 371 (by decide) (by decide)).1.trans (by decide +kernel)
theorem k_372 (hS : Sh S h) : h 372 (-2) = 103 := (hS.1 372 (by decide) (by decide)).1.trans (by decide +kernel)
theorem k_373 (hS : Sh S h) : h 373 (-2) = 101 := (hS.1 373 (by decide) (by decide)).1.trans (by decide +kernel)
theorem k_374 (hS : Sh S h) : h 374 (-2) = 101 := (hS.1 374 (by decide) (by decide)).1.trans (by decide +kernel)
theorem k_375 (hS : Sh S h) : h 375 (-2) = 101 := (hS.1 375 (by decide) (by decide)).1.trans (by decide +kernel)
theorem k_376 (hS : Sh S h) : h 376 (-2) = 101 := (hS.1 376 (by decide) (by decide)).1.trans (by decide +kernel)
theorem k_377 (hS : Sh S h) : h 377 (-2) = 101 := (hS.1 377 (by decide) (by decide)).1.trans (by decide +kernel)
theorem k_38 (hS : Sh S h) : h 38 (-2) = 1 := (hS.2.2.1 38 (-2) (by decide) (by decide)).trans rfl
theorem k_40 (hS : Sh S h) : h 40 (-2) = 1 := (hS.2.2.1 40 (-2) (by decide) (by decide)).trans rfl
theorem k_404 (hS : Sh S h) : h 404 (-2) = 101 := (hS.1 404 (by decide) (by decide)).1.trans (by decide +kernel)
theorem k_405 (hS : Sh S h) : h 405 (-2) = 104 := (hS.1 405 (by decide) (by decide)).1.trans (by decide +kernel)
theorem k_406 (hS : Sh S h) : h 406 (-2) = 101 := (hS.1 406 (by decide) (by decide)).1.trans (by decide +kernel)
theorem k_407 (hS : Sh S h) : h 407 (-2) = 101 := (hS.1 407 (by decide) (by decide)).1.trans (by decide +kernel)
theorem k_408 (hS : Sh S h) : h 408 (-2) = 10 := (hS.1 408 (by decide) (by decide)).1.trans (by decide +kernel)
theorem k_409 (hS : Sh S h) : h 409 (-2) = 103 := (hS.1 409 (by decide) (by decide)).1.trans (by decide +kernel)
theorem k_410 (hS : Sh S h) : h 410 (-2) = 103 := (hS.1 410 (by decide) (by decide)).1.trans (by decide +kernel)
theorem k_411 (hS : Sh S h) : h 411 (-2) = 101 := (hS.1 411 (by decide) (by decide)).1.trans (by decide +kernel)
theorem k_412 (hS : Sh S h) : h 412 (-2) = 101 := (hS.1 412 (by decide) (by decide)).1.trans (by decide +kernel)
theorem k_413 (hS : Sh S h) : h 413 (-2) = 101 := (hS.1 413 (by decide) (by decide)).1.trans (by decide +kernel)
theorem k_414 (hS : Sh S h) : h 414 (-2) = 104 := (hS.1 414 (by decide) (by decide)).1.trans (by decide +kernel)
theorem k_415 (hS : Sh S h) : h 415 (-2) = 102 := (hS.1 415 (by decide) (by decide)).1.trans (by decide +kernel)
theorem k_416 (hS : Sh S h) : h 416 (-2) = 101 := (hS.1 416 (by decide) (by decide)).1.trans (by decide +kernel)
theorem k_417 (hS : Sh S h) : h 417 (-2) = 102 := (hS.1 417 (by decide) (by decide)).1.trans (by decide +kernel)
theorem k_418 (hS : Sh S h) : h 418 (-2) = 101 := (hS.1 418 (by decide) (by decide)).1.trans (by decide +kernel)
theorem k_419 (hS : Sh S h) : h 419 (-2) = 101 := (hS.1 419 (by decide) (by decide)).1.trans (by decide +kernel)
theorem k_42 (hS : Sh S h) : h 42 (-2) = 1 := (hS.2.2.1 42 (-2) (by decide) (by decide)).trans rfl
theorem k_420 (hS : Sh S h) : h 420 (-2) = 102 := (hS.1 420 (by decide) (by decide)).1.trans (by decide +kernel)
theorem k_421 (hS : Sh S h) : h 421 (-2) = 101 := (hS.1 421 (by decide) (by decide)).1.trans (by decide +kernel)
theorem k_422 (hS : Sh S h) : h 422 (-2) = 101 := (hS.1 422 (by decide) (by decide)).1.trans (by decide +kernel)
theorem k_423 (hS : Sh S h) : h 423 (-2) = 101 := (hS.1 423 (by decide) (by decide)).1.trans (by decide +kernel)
theorem k_424 (hS : Sh S h) : h 424 (-2) = 11 := (hS.1 424 (by decide) (by decide)).1.trans (by decide +kernel)
theorem k_425 (hS : Sh S h) : h 425 (-2) = 101 := (hS.1 425 (by decide) (by decide)).1.trans (by decide +kernel)
theorem k_426 (hS : Sh S h) : h 426 (-2) = 104 := (hS.1 426 (by decide) (by decide)).1.trans (by decide +kernel)
theorem k_427 (hS : Sh S h) : h 427 (-2) = 101 := (hS.1 427 (by decide) (by decide)).1.trans (by decide +kernel)
theorem k_428 (hS : Sh S h) : h 428 (-2) = 104 := (hS.1 428 (by decide) (by decide)).1.trans (by decide +kernel)
theorem k_429 (hS : Sh S h) : h 429 (-2) = 101 := (hS.1 429 (by decide) (by decide)).1.trans (by decide +kernel)
theorem k_430 (hS : Sh S h) : h 430 (-2) = 101 := (hS.1 430 (by decide) (by decide)).1.trans (by decide +kernel)
theorem k_431 (hS : Sh S h) : h 431 (-2) = 12 := (hS.1 431 (by decide) (by decide)).1.trans (by decide +kernel)
theorem k_432 (hS : Sh S h) : h 432 (-2) = 101 := (hS.1 432 (by decide) (by decide)).1.trans (by decide +kernel)
theorem k_433 (hS : Sh S h) : h 433 (-2) = 101 := (hS.1 433 (by decide) (by decide)).1.trans (by decide +kernel)
theorem k_434 (hS : Sh S h) : h 434 (-2) = 13 := (hS.1 434 (by decide) (by decide)).1.trans (by decide +kernel)
theorem k_435 (hS : Sh S h) : h 435 (-2) = 103 := (hS.1 435 (by decide) (by decide)).1.trans (by decide +kernel)
theorem k_436 (hS : Sh S h) : h 436 (-2) = 103 := (hS.1 436 (by decide) (by decide)).1.trans (by decide +kernel)
theorem k_437 (hS : Sh S h) : h 437 (-2) = 103 := (hS.1 437 (by decide) (by decide)).1.trans (by decide +kernel)
theorem k_438 (hS : Sh S h) : h 438 (-2) = 103 := (hS.1 438 (by decide) (by decide)).1.trans (by decide +kernel)
theorem k_439 (hS : Sh S h) : h 439 (-2) = 103 := (hS.1 439 (by decide) (by decide)).1.trans (by decide +kernel)
theorem k_44 (hS : Sh S h) : h 44 (-2) = 1 := (hS.2.2.1 44 (-2) (by decide) (by decide)).trans rfl
theorem k_440 (hS : Sh S h) : h 440 (-2) = 103 := (hS.1 440 (by decide) (by decide)).1.trans (by decide +kernel)
theorem k_441 (hS : Sh S h) : h 441 (-2) = 14 := (hS.1 441 (by decide) (by decide)).1.trans (by decide +kernel)
theorem k_442 (hS : Sh S h) : h 442 (-2) = 101 := (hS.1 442 (by decide) (by decide)).1.trans (by decide +kernel)
theorem k_443 (hS : Sh S h) : h 443 (-2) = 101 := (hS.1 443 (by decide) (by decide)).1.trans (by decide +kernel)
theorem k_444 (hS : Sh S h) : h 444 (-2) = 101 := (hS.1 444 (by decide) (by decide)).1.trans (by decide +kernel)
theorem k_445 (hS : Sh S h) : h 445 (-2) = 101 := (hS.1 445 (by decide) (by decide)).1.trans (by decide +kernel)
theorem k_446 (hS : Sh S h) : h 446 (-2) = 101 := (hS.1 446 (by decide) (by decide)).1.trans (by decide +kernel)
theorem k_447 (hS : Sh S h) : h 447 (-2) = 101 := (hS.1 447 (by decide) (by decide)).1.trans (by decide +kernel)
theorem k_448 (hS : Sh S h) : h 448 (-2) = 7 := (hS.1 448 (by decide) (by decide)).1.trans (by decide +kernel)
theorem k_449 (hS : Sh S h) : h 449 (-2) = 103 := (hS.1 449 (by decide) (by decide)).1.trans (by decide +kernel)
theorem k_450 (hS : Sh S h) : h 450 (-2) = 7 := (hS.1 450 (by decide) (by decide)).1.trans (by decide +kernel)
theorem k_451 (hS : Sh S h) : h 451 (-2) = 103 := (hS.1 451 (by decide) (by decide)).1.trans (by decide +kernel)
theorem k_452 (hS : Sh S h) : h 452 (-2) = 7 := (hS.1 452 (by decide) (by decide)).1.trans (by decide +kernel)
theorem k_453 (hS : Sh S h) : h 453 (-2) = 103 := (hS.1 453 (by decide) (by decide)).1.trans (by decide +kernel)
theorem k_454 (hS : Sh S h) : h 454 (-2) = 15 := (hS.1 454 (by decide) (by decide)).1.trans (by decide +kernel)
theorem k_455 (hS : Sh S h) : h 455 (-2) = 102 := (hS.1 455 (by decide) (by decide)).1.trans (by decide +kernel)
theorem k_456 (hS : Sh S h) : h 456 (-2) = 101 := (hS.1 456 (by decide) (by decide)).1.trans (by decide +kernel)
theorem k_457 (hS : Sh S h) : h 457 (-2) = 101 := (hS.1 457 (by decide) (by decide)).1.trans (by decide +kernel)
theorem k_458 (hS : Sh S h) : h 458 (-2) = 101 := (hS.1 458 (by decide) (by decide)).1.trans (by decide +kernel)
theorem k_459 (hS : Sh S h) : h 459 (-2) = 101 := (hS.1 459 (by decide) (by decide)).1.trans (by decide +kernel)
theorem k_46 (hS : Sh S h) : h 46 (-2) = 1 := (hS.2.2.1 46 (-2) (by decide) (by decide)).trans rfl
theorem k_460 (hS : Sh S h) : h 460 (-2) = 101 := (hS.1 460 (by decide) (by decide)).1.trans (by decide +kernel)
theorem k_461 (hS : Sh S h) : h 461 (-2) = 101 := (hS.1 461 (by decide) (by decide)).1.trans (by decide +kernel)
theorem k_462 (hS : Sh S h) : h 462 (-2) = 101 := (hS.1 462 (by decide) (by decide)).1.trans (by decide +kernel)
theorem k_463 (hS : Sh S h) : h 463 (-2) = 101 := (hS.1 463 (by decide) (by decide)).1.trans (by decide +kernel)
theorem k_464 (hS : Sh S h) : h 464 (-2) = 101 := (hS.1 464 (by decide) (by decide)).1.trans (by decide +kernel)
theorem k_465 (hS : Sh S h) : h 465 (-2) = 101 := (hS.1 465 (by decide) (by decide)).1.trans (by decide +kernel)
theorem k_466 (hS : Sh S h) : h 466 (-2) = 101 := (hS.1 466 (by decide) (by decide)).1.trans (by decide +kernel)
theorem k_467 (hS : Sh S h) : h 467 (-2) = 101 := (hS.1 467 (by decide) (by decide)).1.trans (by decide +kernel)
theorem k_468 (hS : Sh S h) : h 468 (-2) = 101 := (hS.1 468 (by decide) (by decide)).1.trans (by decide +kernel)
theorem k_469 (hS : Sh S h) : h 469 (-2) = 101 := (hS.1 469 (by decide) (by decide)).1.trans (by decide +kernel)
theorem k_470 (hS : Sh S h) : h 470 (-2) = 102 := (hS.1 470 (by decide) (by decide)).1.trans (by decide +kernel)
theorem k_471 (hS : Sh S h) : h 471 (-2) = 101 := (hS.1 471 (by decide) (by decide)).1.trans (by decide +kernel)
theorem k_472 (hS : Sh S h) : h 472 (-2) = 16 := (hS.1 472 (by decide) (by decide)).1.trans (by decide +kernel)
theorem k_473 (hS : Sh S h) : h 473 (-2) = 101 := (hS.1 473 (by decide) (by decide)).1.trans (by decide +kernel)
theorem k_474 (hS : Sh S h) : h 474 (-2) = 102 := (hS.1 474 (by decide) (by decide)).1.trans (by decide +kernel)
theorem k_475 (hS : Sh S h) : h 475 (-2) = 101 := (hS.1 475 (by decide) (by decide)).1.trans (by decide +kernel)
theorem k_48 (hS : Sh S h) : h 48 (-2) = 1 := (hS.2.2.1 48 (-2) (by decide) (by decide)).trans rfl
theorem k_50 (hS : Sh S h) : h 50 (-2) = 1 := (hS.2.2.1 50 (-2) (by decide) (by decide)).trans rfl
theorem k_52 (hS : Sh S h) : h 52 (-2) = 1 := (hS.2.2.1 52 (-2) (by decide) (by decide)).trans rfl
theorem k_54 (hS : Sh S h) : h 54 (-2) = 1 := (hS.2.2.1 54 (-2) (by decide) (by decide)).trans rfl
theorem k_754 (hS : Sh S h) : h 754 (-2) = 101 := (hS.1 754 (by decide) (by decide)).1.trans (by decide +kernel)
theorem k_755 (hS : Sh S h) : h 755 (-2) = 106 := (hS.1 755 (by decide) (by decide)).1.trans (by decide +kernel)
theorem k_769 (hS : Sh S h) : h 769 (-2) = 106 := (hS.1 769 (by decide) (by decide)).1.trans (by decide +kernel)
theorem k_786 (hS : Sh S h) : h 786 (-2) = 101 := (hS.1 786 (by decide) (by decide)).1.trans (by decide +kernel)
theorem k_787 (hS : Sh S h) : h 787 (-2) = 101 := (hS.1 787 (by decide) (by decide)).1.trans (by decide +kernel)
theorem k_788 (hS : Sh S h) : h 788 (-2) = 101 := (hS.1 788 (by decide) (by decide)).1.trans (by decide +kernel)
theorem k_789 (hS : Sh S h) : h 789 (-2) = 101 := (hS.1 789 (by decide) (by decide)).1.trans (by decide +kernel)
theorem k_790 (hS : Sh S h) : h 790 (-2) = 101 := (hS.1 790 (by decide) (by decide)).1.trans (by decide +kernel)
theorem k_791 (hS : Sh S h) : h 791 (-2) = 101 := (hS.1 791 (by decide) (by decide)).1.trans (by decide +kernel)
theorem k_792 (hS : Sh S h) : h 792 (-2) = 101 := (hS.1 792 (by decide) (by decide)).1.trans (by decide +kernel)
theorem k_793 (hS : Sh S h) : h 793 (-2) = 101 := (hS.1 793 (by decide) (by decide)).1.trans (by decide +kernel)
theorem k_794 (hS : Sh S h) : h 794 (-2) = 101 := (hS.1 794 (by decide) (by decide)).1.trans (by decide +kernel)
theorem k_795 (hS : Sh S h) : h 795 (-2) = 104 := (hS.1 795 (by decide) (by decide)).1.trans (by decide +kernel)
theorem k_796 (hS : Sh S h) : h 796 (-2) = 101 := (hS.1 796 (by decide) (by decide)).1.trans (by decide +kernel)
theorem k_797 (hS : Sh S h) : h 797 (-2) = 101 := (hS.1 797 (by decide) (by decide)).1.trans (by decide +kernel)
theorem k_798 (hS : Sh S h) : h 798 (-2) = 101 := (hS.1 798 (by decide) (by decide)).1.trans (by decide +kernel)
theorem k_799 (hS : Sh S h) : h 799 (-2) = 101 := (hS.1 799 (by decide) (by decide)).1.trans (by decide +kernel)
theorem k_800 (hS : Sh S h) : h 800 (-2) = 101 := (hS.1 800 (by decide) (by decide)).1.trans (by decide +kernel)
theorem k_801 (hS : Sh S h) : h 801 (-2) = 101 := (hS.1 801 (by decide) (by decide)).1.trans (by decide +kernel)
theorem k_802 (hS : Sh S h) : h 802 (-2) = 101 := (hS.1 802 (by decide) (by decide)).1.trans (by decide +kernel)
theorem k_803 (hS : Sh S h) : h 803 (-2) = 101 := (hS.1 803 (by decide) (by decide)).1.trans (by decide +kernel)
theorem k_804 (hS : Sh S h) : h 804 (-2) = 101 := (hS.1 804 (by decide) (by decide)).1.trans (by decide +kernel)
theorem k_815 (hS : Sh S h) : h 815 (-2) = 101 := (hS.1 815 (by decide) (by decide)).1.trans (by decide +kernel)
theorem k_816 (hS : Sh S h) : h 816 (-2) = 101 := (hS.1 816 (by decide) (by decide)).1.trans (by decide +kernel)
theorem k_817 (hS : Sh S h) : h 817 (-2) = 101 := (hS.1 817 (by decide) (by decide)).1.trans (by decide +kernel)
theorem k_818 (hS : Sh S h) : h 818 (-2) = 101 := (hS.1 818 (by decide) (by decide)).1.trans (by decide +kernel)
theorem k_819 (hS : Sh S h) : h 819 (-2) = 101 := (hS.1 819 (by decide) (by decide)).1.trans (by decide +kernel)
theorem k_820 (hS : Sh S h) : h 820 (-2) = 101 := (hS.1 820 (by decide) (by decide)).1.trans (by decide +kernel)
theorem k_821 (hS : Sh S h) : h 821 (-2) = 101 := (hS.1 821 (by decide) (by decide)).1.trans (by decide +kernel)
theorem k_822 (hS : Sh S h) : h 822 (-2) = 101 := (hS.1 822 (by decide) (by decide)).1.trans (by decide +kernel)
theorem k_823 (hS : Sh S h) : h 823 (-2) = 101 := (hS.1 823 (by decide) (by decide)).1.trans (by decide +kernel)
theorem k_824 (hS : Sh S h) : h 824 (-2) = 104 := (hS.1 824 (by decide) (by decide)).1.trans (by decide +kernel)
theorem k_825 (hS : Sh S h) : h 825 (-2) = 101 := (hS.1 825 (by decide) (by decide)).1.trans (by decide +kernel)
theorem k_826 (hS : Sh S h) : h 826 (-2) = 101 := (hS.1 826 (by decide) (by decide)).1.trans (by decide +kernel)
theorem k_827 (hS : Sh S h) : h 827 (-2) = 101 := (hS.1 827 (by decide) (by decide)).1.trans (by decide +kernel)
theorem k_828 (hS : Sh S h) : h 828 (-2) = 101 := (hS.1 828 (by decide) (by decide)).1.trans (by decide +kernel)
theorem k_829 (hS : Sh S h) : h 829 (-2) = 106 := (hS.1 829 (by decide) (by decide)).1.trans (by decide +kernel)
theorem k_835 (hS : Sh S h) : h 835 (-2) = 105 := (hS.1 835 (by decide) (by decide)).1.trans (by decide +kernel)
theorem k_841 (hS : Sh S h) : h 841 (-2) = 101 := (hS.1 841 (by decide) (by decide)).1.trans (by decide +kernel)
theorem k_842 (hS : Sh S h) : h 842 (-2) = 101 := (hS.1 842 (by decide) (by decide)).1.trans (by decide +kernel)
theorem k_843 (hS : Sh S h) : h 843 (-2) = 101 := (hS.1 843 (by decide) (by decide)).1.trans (by decide +kernel)
theorem k_844 (hS : Sh S h) : h 844 (-2) = 101 := (hS.1 844 (by decide) (by decide)).1.trans (by decide +kernel)
theorem k_845 (hS : Sh S h) : h 845 (-2) = 104 := (hS.1 845 (by decide) (by decide)).1.trans (by decide +kernel)
theorem k_846 (hS : Sh S h) : h 846 (-2) = 101 := (hS.1 846 (by decide) (by decide)).1.trans (by decide +kernel)
theorem k_847 (hS : Sh S h) : h 847 (-2) = 101 := (hS.1 847 (by decide) (by decide)).1.trans (by decide +kernel)
theorem k_848 (hS : Sh S h) : h 848 (-2) = 101 := (hS.1 848 (by decide) (by decide)).1.trans (by decide +kernel)
theorem k_849 (hS : Sh S h) : h 849 (-2) = 104 := (hS.1 849 (by decide) (by decide)).1.trans (by decide +kernel)
theorem k_850 (hS : Sh S h) : h 850 (-2) = 101 := (hS.1 850 (by decide) (by decide)).1.trans (by decide +kernel)
theorem k_851 (hS : Sh S h) : h 851 (-2) = 105 := (hS.1 851 (by decide) (by decide)).1.trans (by decide +kernel)
theorem k_861 (hS : Sh S h) : h 861 (-2) = 105 := (hS.1 861 (by decide) (by decide)).1.trans (by decide +kernel)
theorem k_871 (hS : Sh S h) : h 871 (-2) = 101 := (hS.1 871 (by decide) (by decide)).1.trans (by decide +kernel)
theorem k_872 (hS : Sh S h) : h 872 (-2) = 101 := (hS.1 872 (by decide) (by decide)).1.trans (by decide +kernel)
theorem k_873 (hS : Sh S h) : h 873 (-2) = 105 := (hS.1 873 (by decide) (by decide)).1.trans (by decide +kernel)
theorem ka_X16_10 {T : Int} (hS : Sh S h) (hT : isX16 T) : h (T + 5) (-2) = 101 := by
  rcases hT with rfl | rfl <;> exact (hS.1 _ (by decide) (by decide)).1.trans (by decide +kernel)
theorem ka_X16_11 {T : Int} (hS : Sh S h) (hT : isX16 T) : h (T + 6) (-2) = 101 := by
  rcases hT with rfl | rfl <;> exact (hS.1 _ (by decide) (by decide)).1.trans (by decide +kernel)
theorem ka_X16_13 {T : Int} (hS : Sh S h) (hT : isX16 T) : h (T + 7) (-2) = 101 := by
  rcases hT with rfl | rfl <;> exact (hS.1 _ (by decide) (by decide)).1.trans (by decide +kernel)
theorem ka_X16_14 {T : Int} (hS : Sh S h) (hT : isX16 T) : h (T + 8) (-2) = 101 := by
  rcases hT with rfl | rfl <;> exact (hS.1 _ (by decide) (by decide)).1.trans (by decide +kernel)
theorem ka_X16_15 {T : Int} (hS : Sh S h) (hT : isX16 T) : h (T + 9) (-2) = 101 := by
  rcases hT with rfl | rfl <;> exact (hS.1 _ (by decide) (by decide)).1.trans (by decide +kernel)
theorem ka_X16_16 {T : Int} (hS : Sh S h) (hT : isX16 T) : h (T + 10) (-2) = 101 := by
  rcases hT with rfl | rfl <;> exact (hS.1 _ (by decide) (by decide)).1.trans (by decide +kernel)
theorem ka_X16_19 {T : Int} (hS : Sh S h) (hT : isX16 T) : h (T + 11) (-2) = 101 := by
  rcases hT with rfl | rfl <;> exact (hS.1 _ (by decide) (by decide)).1.trans (by decide +kernel)
theorem ka_X16_2 {T : Int} (hS : Sh S h) (hT : isX16 T) : h (T + 1) (-2) = 101 := by
  rcases hT with rfl | rfl <;> exact (hS.1 _ (by decide) (by decide)).1.trans (by decide +kernel)
theorem ka_X16_21 {T : Int} (hS : Sh S h) (hT : isX16 T) : h (T + 12) (-2) = 101 := by
  rcases hT with rfl | rfl <;> exact (hS.1 _ (by decide) (by decide)).1.trans (by decide +kernel)
theorem ka_X16_22 {T : Int} (hS : Sh S h) (hT : isX16 T) : h (T + 13) (-2) = 101 := by
  rcases hT with rfl | rfl <;> exact (hS.1 _ (by decide) (by decide)).1.trans (by decide +kernel)
theorem ka_X16_23 {T : Int} (hS : Sh S h) (hT : isX16 T) : h (T + 14) (-2) = 101 := by
  rcases hT with rfl | rfl <;> exact (hS.1 _ (by decide) (by decide)).1.trans (by decide +kernel)
theorem ka_X16_24 {T : Int} (hS : Sh S h) (hT : isX16 T) : h (T + 15) (-2) = 101 := by
  rcases hT with rfl | rfl <;> exact (hS.1 _ (by decide) (by decide)).1.trans (by decide +kernel)
theorem ka_X16_25 {T : Int} (hS : Sh S h) (hT : isX16 T) : h (T + 16) (-2) = 105 := by
  rcases hT with rfl | rfl <;> exact (hS.1 _ (by decide) (by decide)).1.trans (by decide +kernel)
theorem ka_X16_6 {T : Int} (hS : Sh S h) (hT : isX16 T) : h (T + 2) (-2) = 101 := by
  rcases hT with rfl | rfl <;> exact (hS.1 _ (by decide) (by decide)).1.trans (by decide +kernel)
theorem ka_X16_7 {T : Int} (hS : Sh S h) (hT : isX16 T) : h (T + 3) (-2) = 101 := by
  rcases hT with rfl | rfl <;> exact (hS.1 _ (by decide) (by decide)).1.trans (by decide +kernel)
theorem ka_X16_8 {T : Int} (hS : Sh S h) (hT : isX16 T) : h (T + 4) (-2) = 101 := by
  rcases hT with rfl | rfl <;> exact (hS.1 _ (by decide) (by decide)).1.trans (by decide +kernel)
theorem ka_X17_3 {T : Int} (hS : Sh S h) (hT : isX17 T) : h (T + 2) (-2) = 101 := by
  rcases hT with rfl | rfl <;> exact (hS.1 _ (by decide) (by decide)).1.trans (by decide +kernel)
theorem ka_X17_5 {T : Int} (hS : Sh S h) (hT : isX17 T) : h (T + 3) (-2) = 101 := by
  rcases hT with rfl | rfl <;> exact (hS.1 _ (by decide) (by decide)).1.trans (by decide +kernel)
theorem ka_X17_7 {T : Int} (hS : Sh S h) (hT : isX17 T) : h (T + 4) (-2) = 101 := by
  rcases hT with rfl | rfl <;> exact (hS.1 _ (by decide) (by decide)).1.trans (by decide +kernel)
theorem ka_X3_1 {T : Int} (hS : Sh S h) (hT : isX3 T) : h (T + 1) (-2) = 101 := by
  rcases hT with rfl | rfl | rfl | rfl | rfl | rfl | rfl | rfl | rfl | rfl | rfl <;> exact (hS.1 _ (by decide) (by decide)).1.trans (by decide +kernel)
theorem ka_X3_2 {T : Int} (hS : Sh S h) (hT : isX3 T) : h (T + 2) (-2) = 101 := by
  rcases hT with rfl | rfl | rfl | rfl | rfl | rfl | rfl | rfl | rfl | rfl | rfl <;> exact (hS.1 _ (by decide) (by decide)).1.trans (by decide +kernel)
theorem ka_X3_3 {T : Int} (hS : Sh S h) (hT : isX3 T) : h (T + 3) (-2) = 101 := by
  rcases hT with rfl | rfl | rfl | rfl | rfl | rfl | rfl | rfl | rfl | rfl | rfl <;> exact (hS.1 _ (by decide) (by decide)).1.trans (by decide +kernel)
theorem ka_X3_4 {T : Int} (hS : Sh S h) (hT : isX3 T) : h (T + 5) (-2) = 101 := by
  rcases hT with rfl | rfl | rfl | rfl | rfl | rfl | rfl | rfl | rfl | rfl | rfl <;> exact (hS.1 _ (by decide) (by decide)).1.trans (by decide +kernel)
theorem ka_X3_5 {T : Int} (hS : Sh S h) (hT : isX3 T) : h (T + 4) (-2) = 101 := by
  rcases hT with rfl | rfl | rfl | rfl | rfl | rfl | rfl | rfl | rfl | rfl | rfl <;> exact (hS.1 _ (by decide) (by decide)).1.trans (by decide +kernel)
theorem ka_X4_0 {T : Int} (hS : Sh S h) (hT : isX4 T) : h (T + 1) (-2) = 101 := by
  rcases hT with rfl | rfl <;> exact (hS.1 _ (by decide) (by decide)).1.trans (by decide +kernel)
theorem ka_X4_10 {T : Int} (hS : Sh S h) (hT : isX4 T) : h (T + 7) (-2) = 101 := by
  rcases hT with rfl | rfl <;> exact (hS.1 _ (by decide) (by decide)).1.trans (by decide +kernel)
theorem ka_X4_12 {T : Int} (hS : Sh S h) (hT : isX4 T) : h (T + 8) (-2) = 101 := by
  rcases hT with rfl | rfl <;> exact (hS.1 _ (by decide) (by decide)).1.trans (by decide +kernel)
theorem ka_X4_13 {T : Int} (hS : Sh S h) (hT : isX4 T) : h (T + 9) (-2) = 101 := by
  rcases hT with rfl | rfl <;> exact (hS.1 _ (by decide) (by decide)).1.trans (by decide +kernel)
theorem ka_X4_14 {T : Int} (hS : Sh S h) (hT : isX4 T) : h (T + 10) (-2) = 101 := by
  rcases hT with rfl | rfl <;> exact (hS.1 _ (by decide) (by decide)).1.trans (by decide +kernel)
theorem ka_X4_15 {T : Int} (hS : Sh S h) (hT : isX4 T) : h (T + 11) (-2) = 101 := by
  rcases hT with rfl | rfl <;> exact (hS.1 _ (by decide) (by decide)).1.trans (by decide +kernel)
theorem ka_X4_4 {T : Int} (hS : Sh S h) (hT : isX4 T) : h (T + 2) (-2) = 101 := by
  rcases hT with rfl | rfl <;> exact (hS.1 _ (by decide) (by decide)).1.trans (by decide +kernel)
theorem ka_X4_5 {T : Int} (hS : Sh S h) (hT : isX4 T) : h (T + 3) (-2) = 101 := by
  rcases hT with rfl | rfl <;> exact (hS.1 _ (by decide) (by decide)).1.trans (by decide +kernel)
theorem ka_X4_6 {T : Int} (hS : Sh S h) (hT : isX4 T) : h (T + 4) (-2) = 101 := by
  rcases hT with rfl | rfl <;> exact (hS.1 _ (by decide) (by decide)).1.trans (by decide +kernel)
theorem ka_X4_7 {T : Int} (hS : Sh S h) (hT : isX4 T) : h (T + 5) (-2) = 101 := by
  rcases hT with rfl | rfl <;> exact (hS.1 _ (by decide) (by decide)).1.trans (by decide +kernel)
theorem ka_X4_9 {T : Int} (hS : Sh S h) (hT : isX4 T) : h (T + 6) (-2) = 101 := by
  rcases hT with rfl | rfl <;> exact (hS.1 _ (by decide) (by decide)).1.trans (by decide +kernel)
theorem ka_X6_0 {T : Int} (hS : Sh S h) (hT : isX6 T) : h (T + 1) (-2) = 103 := by
  rcases hT with rfl | rfl | rfl | rfl | rfl | rfl <;> exact (hS.1 _ (by decide) (by decide)).1.trans (by decide +kernel)
theorem ka_X8_0 {T : Int} (hS : Sh S h) (hT : isX8 T) : h (T + 1) (-2) = 101 := by
  rcases hT with rfl | rfl <;> exact (hS.1 _ (by decide) (by decide)).1.trans (by decide +kernel)
theorem ka_X8_11 {T : Int} (hS : Sh S h) (hT : isX8 T) : h (T + 11) (-2) = 101 := by
  rcases hT with rfl | rfl <;> exact (hS.1 _ (by decide) (by decide)).1.trans (by decide +kernel)
theorem ka_X8_12 {T : Int} (hS : Sh S h) (hT : isX8 T) : h (T + 12) (-2) = 101 := by
  rcases hT with rfl | rfl <;> exact (hS.1 _ (by decide) (by decide)).1.trans (by decide +kernel)
theorem ka_X8_3 {T : Int} (hS : Sh S h) (hT : isX8 T) : h (T + 2) (-2) = 101 := by
  rcases hT with rfl | rfl <;> exact (hS.1 _ (by decide) (by decide)).1.trans (by decide +kernel)
theorem ka_X8_4 {T : Int} (hS : Sh S h) (hT : isX8 T) : h (T + 3) (-2) = 101 := by
  rcases hT with rfl | rfl <;> exact (hS.1 _ (by decide) (by decide)).1.trans (by decide +kernel)
theorem ka_X8_5 {T : Int} (hS : Sh S h) (hT : isX8 T) : h (T + 4) (-2) = 101 := by
  rcases hT with rfl | rfl <;> exact (hS.1 _ (by decide) (by decide)).1.trans (by decide +kernel)
theorem kd_X16 {T : Int} (hS : Sh S h) (hT : isX16 T) : h T (-2) = 17 := by
  rcases hT with rfl | rfl <;> exact (hS.1 _ (by decide) (by decide)).1.trans (by decide +kernel)
theorem kd_X17 {T : Int} (hS : Sh S h) (hT : isX17 T) : h T (-2) = 18 := by
  rcases hT with rfl | rfl <;> exact (hS.1 _ (by decide) (by decide)).1.trans (by decide +kernel)
theorem kd_X3 {T : Int} (hS : Sh S h) (hT : isX3 T) : h T (-2) = 4 := by
  rcases hT with rfl | rfl | rfl | rfl | rfl | rfl | rfl | rfl | rfl | rfl | rfl <;> exact (hS.1 _ (by decide) (by decide)).1.trans (by decide +kernel)
theorem kd_X4 {T : Int} (hS : Sh S h) (hT : isX4 T) : h T (-2) = 5 := by
  rcases hT with rfl | rfl <;> exact (hS.1 _ (by decide) (by decide)).1.trans (by decide +kernel)
theorem kd_X6 {T : Int} (hS : Sh S h) (hT : isX6 T) : h T (-2) = 7 := by
  rcases hT with rfl | rfl | rfl | rfl | rfl | rfl <;> exact (hS.1 _ (by decide) (by decide)).1.trans (by decide +kernel)
theorem kd_X8 {T : Int} (hS : Sh S h) (hT : isX8 T) : h T (-2) = 9 := by
  rcases hT with rfl | rfl <;> exact (hS.1 _ (by decide) (by decide)).1.trans (by decide +kernel)
theorem l_1075 (hS : Sh S h) : h 1075 (-1) = 128 := (hS.1 1075 (by decide) (by decide)).2.trans (by decide +kernel)
theorem l_1076 (hS : Sh S h) : h 1076 (-1) = 24200 := (hS.1 1076 (by decide) (by decide)).2.trans (by decide +kernel)
theorem l_1077 (hS : Sh S h) : h 1077 (-1) = 1 := (hS.1 1077 (by decide) (by decide)).2.trans (by decide +kernel)
theorem l_203 (hS : Sh S h) : h 203 (-1) = 26 := (hS.1 203 (by decide) (by decide)).2.trans (by decide +kernel)
theorem l_204 (hS : Sh S h) : h 204 (-1) = 26 := (hS.1 204 (by decide) (by decide)).2.trans (by decide +kernel)
theorem l_205 (hS : Sh S h) : h 205 (-1) = 104 := (hS.1 205 (by decide) (by decide)).2.trans (by decide +kernel)
theorem l_264 (hS : Sh S h) : h 264 (-1) = 10 := (hS.1 264 (by decide) (by decide)).2.trans (by decide +kernel)
theorem l_265 (hS : Sh S h) : h 265 (-1) = 10 := (hS.1 265 (by decide) (by decide)).2.trans (by decide +kernel)
theorem l_266 (hS : Sh S h) : h 266 (-1) = 30 := (hS.1 266 (by decide) (by decide)).2.trans (by decide +kernel)
theorem l_267 (hS : Sh S h) : h 267 (-1) = 10 := (hS.1 267 (by decide) (by decide)).2.trans (by decide +kernel)
theorem l_268 (hS : Sh S h) : h 268 (-1) = 10 := (hS.1 268 (by decide) (by decide)).2.trans (by decide +kernel)
theorem l_269 (hS : Sh S h) : h 269 (-1) = 1000 := (hS.1 269 (by decide) (by decide)).2.trans (by decide +kernel)
theorem l_270 (hS : Sh S h) : h 270 (-1) = 3 := (hS.1 270 (by decide) (by decide)).2.trans (by decide +kernel)
theorem l_308 (hS : Sh S h) : h 308 (-1) = 121 := (hS.1 308 (by decide) (by decide)).2.trans (by decide +kernel)
theorem l_309 (hS : Sh S h) : h 309 (-1) = 121 := (hS.1 309 (by decide) (by decide)).2.trans (by decide +kernel)
theorem l_310 (hS : Sh S h) : h 310 (-1) = 121 := (hS.1 310 (by decide) (by decide)).2.trans (by decide +kernel)
theorem l_311 (hS : Sh S h) : h 311 (-1) = 363 := (hS.1 311 (by decide) (by decide)).2.trans (by decide +kernel)
theorem l_312 (hS : Sh S h) : h 312 (-1) = 30976 := (hS.1 312 (by decide) (by decide)).2.trans (by decide +kernel)
theorem l_313 (hS : Sh S h) : h 313 (-1) = 121 := (hS.1 313 (by decide) (by decide)).2.trans (by decide +kernel)
theorem l_314 (hS : Sh S h) : h 314 (-1) = 13 := (hS.1 314 (by decide) (by decide)).2.trans (by decide +kernel)
theorem l_315 (hS : Sh S h) : h 315 (-1) = 121 := (hS.1 315 (by decide) (by decide)).2.trans (by decide +kernel)
theorem l_316 (hS : Sh S h) : h 316 (-1) = 172800 := (hS.1 316 (by decide) (by decide)).2.trans (by decide +kernel)
theorem l_317 (hS : Sh S h) : h 317 (-1) = 1728000 := (hS.1 317 (by decide) (by decide)).2.trans (by decide +kernel)
theorem l_320 (hS : Sh S h) : h 320 (-1) = 256 := (hS.1 320 (by decide) (by decide)).2.trans (by decide +kernel)
theorem l_321 (hS : Sh S h) : h 321 (-1) = 1560 := (hS.1 321 (by decide) (by decide)).2.trans (by decide +kernel)
theorem l_322 (hS : Sh S h) : h 322 (-1) = 4800 := (hS.1 322 (by decide) (by decide)).2.trans (by decide +kernel)
theorem l_323 (hS : Sh S h) : h 323 (-1) = 256 := (hS.1 323 (by decide) (by decide)).2.trans (by decide +kernel)
theorem l_325 (hS : Sh S h) : h 325 (-1) = 2200 := (hS.1 325 (by decide) (by decide)).2.trans (by decide +kernel)
theorem l_326 (hS : Sh S h) : h 326 (-1) = 2200 := (hS.1 326 (by decide) (by decide)).2.trans (by decide +kernel)
theorem l_327 (hS : Sh S h) : h 327 (-1) = 2200 := (hS.1 327 (by decide) (by decide)).2.trans (by decide +kernel)
theorem l_333 (hS : Sh S h) : h 333 (-1) = 2200 := (hS.1 333 (by decide) (by decide)).2.trans (by decide +kernel)
theorem l_337 (hS : Sh S h) : h 337 (-1) = 4200 := (hS.1 337 (by decide) (by decide)).2.trans (by decide +kernel)
theorem l_338 (hS : Sh S h) : h 338 (-1) = 256 := (hS.1 338 (by decide) (by decide)).2.trans (by decide +kernel)
theorem l_339 (hS : Sh S h) : h 339 (-1) = 3 := (hS.1 339 (by decide) (by decide)).2.trans (by decide +kernel)
theorem l_340 (hS : Sh S h) : h 340 (-1) = 800 := (hS.1 340 (by decide) (by decide)).2.trans (by decide +kernel)
theorem l_353 (hS : Sh S h) : h 353 (-1) = 12 := (hS.1 353 (by decide) (by decide)).2.trans (by decide +kernel)
theorem l_354 (hS : Sh S h) : h 354 (-1) = 12 := (hS.1 354 (by decide) (by decide)).2.trans (by decide +kernel)
theorem l_355 (hS : Sh S h) : h 355 (-1) = 36 := (hS.1 355 (by decide) (by decide)).2.trans (by decide +kernel)
theorem l_358 (hS : Sh S h) : h 358 (-1) = 32 := (hS.1 358 (by decide) (by decide)).2.trans (by decide +kernel)
theorem l_359 (hS : Sh S h) : h 359 (-1) = 32 := (hS.1 359 (by decide) (by decide)).2.trans (by decide +kernel)
theorem l_366 (hS : Sh S h) : h 366 (-1) = 32 := (hS.1 366 (by decide) (by decide)).2.trans (by decide +kernel)
theorem l_370 (hS : Sh S h) : h 370 (-1) = 400 := (hS.1 370 (by decide) (by decide)).2.trans (by decide +kernel)
theorem l_372 (hS : Sh S h) : h 372 (-1) = 400 := (hS.1 372 (by decide) (by decide)).2.trans (by decide +kernel)
theorem l_373 (hS : Sh S h) : h 373 (-1) = 3 := (hS.1 373 (by decide) (by decide)).2.trans (by decide +kernel)
theorem l_374 (hS : Sh S h) : h 374 (-1) = 3 := (hS.1 374 (by decide) (by decide)).2.trans (by decide +kernel)
theorem l_375 (hS : Sh S h) : h 375 (-1) = 3 := (hS.1 375 (by decide) (by decide)).2.trans (by decide +kernel)
theorem l_376 (hS : Sh S h) : h 376 (-1) = 3 := (hS.1 376 (by decide) (by decide)).2.trans (by decide +kernel)
theorem l_377 (hS : Sh S h) : h 377 (-1) = 3 := (hS.1 377 (by decide) (by decide)).2.trans (by decide +kernel)
theorem l_404 (hS : Sh S h) : h 404 (-1) = 4096 := (hS.1 404 (by decide) (by decide)).2.trans (by decide +kernel)
theorem l_405 (hS : Sh S h) : h 405 (-1) = 4096 := (hS.1 405 (by decide) (by decide)).2.trans (by decide +kernel)
theorem l_406 (hS : Sh S h) : h 406 (-1) = 3 := (hS.1 406 (by decide) (by decide)).2.trans (by decide +kernel)
theorem l_407 (hS : Sh S h) : h 407 (-1) = 3 := (hS.1 407 (by decide) (by decide)).2.trans (by decide +kernel)
theorem l_409 (hS : Sh S h) : h 409 (-1) = 80 := (hS.1 409 (by decide) (by decide)).2.trans (by decide +kernel)
theorem l_410 (hS : Sh S h) : h 410 (-1) = 80 := (hS.1 410 (by decide) (by decide)).2.trans (by decide +kernel)
theorem l_411 (hS : Sh S h) : h 411 (-1) = 8 := (hS.1 411 (by decide) (by decide)).2.trans (by decide +kernel)
theorem l_412 (hS : Sh S h) : h 412 (-1) = 8 := (hS.1 412 (by decide) (by decide)).2.trans (by decide +kernel)
theorem l_413 (hS : Sh S h) : h 413 (-1) = 1424 := (hS.1 413 (by decide) (by decide)).2.trans (by decide +kernel)
theorem l_414 (hS : Sh S h) : h 414 (-1) = 178 := (hS.1 414 (by decide) (by decide)).2.trans (by decide +kernel)
theorem l_415 (hS : Sh S h) : h 415 (-1) = 401 := (hS.1 415 (by decide) (by decide)).2.trans (by decide +kernel)
theorem l_416 (hS : Sh S h) : h 416 (-1) = 401 := (hS.1 416 (by decide) (by decide)).2.trans (by decide +kernel)
theorem l_417 (hS : Sh S h) : h 417 (-1) = 160000 := (hS.1 417 (by decide) (by decide)).2.trans (by decide +kernel)
theorem l_418 (hS : Sh S h) : h 418 (-1) = 160000 := (hS.1 418 (by decide) (by decide)).2.trans (by decide +kernel)
theorem l_419 (hS : Sh S h) : h 419 (-1) = 2000 := (hS.1 419 (by decide) (by decide)).2.trans (by decide +kernel)
theorem l_420 (hS : Sh S h) : h 420 (-1) = 2000 := (hS.1 420 (by decide) (by decide)).2.trans (by decide +kernel)
theorem l_421 (hS : Sh S h) : h 421 (-1) = 4 := (hS.1 421 (by decide) (by decide)).2.trans (by decide +kernel)
theorem l_422 (hS : Sh S h) : h 422 (-1) = 4 := (hS.1 422 (by decide) (by decide)).2.trans (by decide +kernel)
theorem l_423 (hS : Sh S h) : h 423 (-1) = 4 := (hS.1 423 (by decide) (by decide)).2.trans (by decide +kernel)
theorem l_425 (hS : Sh S h) : h 425 (-1) = 20 := (hS.1 425 (by decide) (by decide)).2.trans (by decide +kernel)
theorem l_426 (hS : Sh S h) : h 426 (-1) = 20 := (hS.1 426 (by decide) (by decide)).2.trans (by decide +kernel)
theorem l_427 (hS : Sh S h) : h 427 (-1) = 10 := (hS.1 427 (by decide) (by decide)).2.trans (by decide +kernel)
theorem l_428 (hS : Sh S h) : h 428 (-1) = 5 := (hS.1 428 (by decide) (by decide)).2.trans (by decide +kernel)
theorem l_429 (hS : Sh S h) : h 429 (-1) = 10 := (hS.1 429 (by decide) (by decide)).2.trans (by decide +kernel)
theorem l_430 (hS : Sh S h) : h 430 (-1) = 5 := (hS.1 430 (by decide) (by decide)).2.trans (by decide +kernel)
theorem l_432 (hS : Sh S h) : h 432 (-1) = 5 := (hS.1 432 (by decide) (by decide)).2.trans (by decide +kernel)
theorem l_433 (hS : Sh S h) : h 433 (-1) = 5 := (hS.1 433 (by decide) (by decide)).2.trans (by decide +kernel)
theorem l_435 (hS : Sh S h) : h 435 (-1) = 25728 := (hS.1 435 (by decide) (by decide)).2.trans (by decide +kernel)
theorem l_436 (hS : Sh S h) : h 436 (-1) = 28400 := (hS.1 436 (by decide) (by decide)).2.trans (by decide +kernel)
theorem l_437 (hS : Sh S h) : h 437 (-1) = 128 := (hS.1 437 (by decide) (by decide)).2.trans (by decide +kernel)
theorem l_438 (hS : Sh S h) : h 438 (-1) = 24200 := (hS.1 438 (by decide) (by decide)).2.trans (by decide +kernel)
theorem l_439 (hS : Sh S h) : h 439 (-1) = 24200 := (hS.1 439 (by decide) (by decide)).2.trans (by decide +kernel)
theorem l_440 (hS : Sh S h) : h 440 (-1) = 2000 := (hS.1 440 (by decide) (by decide)).2.trans (by decide +kernel)
theorem l_442 (hS : Sh S h) : h 442 (-1) = 3 := (hS.1 442 (by decide) (by decide)).2.trans (by decide +kernel)
theorem l_443 (hS : Sh S h) : h 443 (-1) = 3 := (hS.1 443 (by decide) (by decide)).2.trans (by decide +kernel)
theorem l_444 (hS : Sh S h) : h 444 (-1) = 3 := (hS.1 444 (by decide) (by decide)).2.trans (by decide +kernel)
theorem l_445 (hS : Sh S h) : h 445 (-1) = 2200 := (hS.1 445 (by decide) (by decide)).2.trans (by decide +kernel)
theorem l_446 (hS : Sh S h) : h 446 (-1) = 3 := (hS.1 446 (by decide) (by decide)).2.trans (by decide +kernel)
theorem l_447 (hS : Sh S h) : h 447 (-1) = 3 := (hS.1 447 (by decide) (by decide)).2.trans (by decide +kernel)
theorem l_449 (hS : Sh S h) : h 449 (-1) = 400 := (hS.1 449 (by decide) (by decide)).2.trans (by decide +kernel)
theorem l_451 (hS : Sh S h) : h 451 (-1) = 2200 := (hS.1 451 (by decide) (by decide)).2.trans (by decide +kernel)
theorem l_453 (hS : Sh S h) : h 453 (-1) = 100 := (hS.1 453 (by decide) (by decide)).2.trans (by decide +kernel)
theorem l_455 (hS : Sh S h) : h 455 (-1) = 36 := (hS.1 455 (by decide) (by decide)).2.trans (by decide +kernel)
theorem l_456 (hS : Sh S h) : h 456 (-1) = 36 := (hS.1 456 (by decide) (by decide)).2.trans (by decide +kernel)
theorem l_457 (hS : Sh S h) : h 457 (-1) = 108 := (hS.1 457 (by decide) (by decide)).2.trans (by decide +kernel)
theorem l_458 (hS : Sh S h) : h 458 (-1) = 36 := (hS.1 458 (by decide) (by decide)).2.trans (by decide +kernel)
theorem l_459 (hS : Sh S h) : h 459 (-1) = 36 := (hS.1 459 (by decide) (by decide)).2.trans (by decide +kernel)
theorem l_460 (hS : Sh S h) : h 460 (-1) = 8800 := (hS.1 460 (by decide) (by decide)).2.trans (by decide +kernel)
theorem l_461 (hS : Sh S h) : h 461 (-1) = 8800 := (hS.1 461 (by decide) (by decide)).2.trans (by decide +kernel)
theorem l_462 (hS : Sh S h) : h 462 (-1) = 8800 := (hS.1 462 (by decide) (by decide)).2.trans (by decide +kernel)
theorem l_463 (hS : Sh S h) : h 463 (-1) = 8800 := (hS.1 463 (by decide) (by decide)).2.trans (by decide +kernel)
theorem l_464 (hS : Sh S h) : h 464 (-1) = 26400 := (hS.1 464 (by decide) (by decide)).2.trans (by decide +kernel)
theorem l_465 (hS : Sh S h) : h 465 (-1) = 8800 := (hS.1 465 (by decide) (by decide)).2.trans (by decide +kernel)
theorem l_466 (hS : Sh S h) : h 466 (-1) = 8800 := (hS.1 466 (by decide) (by decide)).2.trans (by decide +kernel)
theorem l_467 (hS : Sh S h) : h 467 (-1) = 8800 := (hS.1 467 (by decide) (by decide)).2.trans (by decide +kernel)
theorem l_468 (hS : Sh S h) : h 468 (-1) = 8800 := (hS.1 468 (by decide) (by decide)).2.trans (by decide +kernel)
theorem l_469 (hS : Sh S h) : h 469 (-1) = 8800 := (hS.1 469 (by decide) (by decide)).2.trans (by decide +kernel)
theorem l_470 (hS : Sh S h) : h 470 (-1) = 8800 := (hS.1 470 (by decide) (by decide)).2.trans (by decide +kernel)
theorem l_471 (hS : Sh S h) : h 471 (-1) = 4000 := (hS.1 471 (by decide) (by decide)).2.trans (by decide +kernel)
theorem l_473 (hS : Sh S h) : h 473 (-1) = 2000 := (hS.1 473 (by decide) (by decide)).2.trans (by decide +kernel)
theorem l_474 (hS : Sh S h) : h 474 (-1) = 3 := (hS.1 474 (by decide) (by decide)).2.trans (by decide +kernel)
theorem l_475 (hS : Sh S h) : h 475 (-1) = 3 := (hS.1 475 (by decide) (by decide)).2.trans (by decide +kernel)
theorem l_754 (hS : Sh S h) : h 754 (-1) = 256 := (hS.1 754 (by decide) (by decide)).2.trans (by decide +kernel)
theorem l_755 (hS : Sh S h) : h 755 (-1) = 13 := (hS.1 755 (by decide) (by decide)).2.trans (by decide +kernel)
theorem l_769 (hS : Sh S h) : h 769 (-1) = 16 := (hS.1 769 (by decide) (by decide)).2.trans (by decide +kernel)
theorem l_786 (hS : Sh S h) : h 786 (-1) = 518400 := (hS.1 786 (by decide) (by decide)).2.trans (by decide +kernel)
theorem l_787 (hS : Sh S h) : h 787 (-1) = 256000 := (hS.1 787 (by decide) (by decide)).2.trans (by decide +kernel)
theorem l_788 (hS : Sh S h) : h 788 (-1) = 122 := (hS.1 788 (by decide) (by decide)).2.trans (by decide +kernel)
theorem l_789 (hS : Sh S h) : h 789 (-1) = 3 := (hS.1 789 (by decide) (by decide)).2.trans (by decide +kernel)
theorem l_790 (hS : Sh S h) : h 790 (-1) = 2000 := (hS.1 790 (by decide) (by decide)).2.trans (by decide +kernel)
theorem l_791 (hS : Sh S h) : h 791 (-1) = 3 := (hS.1 791 (by decide) (by decide)).2.trans (by decide +kernel)
theorem l_792 (hS : Sh S h) : h 792 (-1) = 256 := (hS.1 792 (by decide) (by decide)).2.trans (by decide +kernel)
theorem l_793 (hS : Sh S h) : h 793 (-1) = 4000 := (hS.1 793 (by decide) (by decide)).2.trans (by decide +kernel)
theorem l_794 (hS : Sh S h) : h 794 (-1) = 3 := (hS.1 794 (by decide) (by decide)).2.trans (by decide +kernel)
theorem l_795 (hS : Sh S h) : h 795 (-1) = 122 := (hS.1 795 (by decide) (by decide)).2.trans (by decide +kernel)
theorem l_796 (hS : Sh S h) : h 796 (-1) = 400 := (hS.1 796 (by decide) (by decide)).2.trans (by decide +kernel)
theorem l_797 (hS : Sh S h) : h 797 (-1) = 12 := (hS.1 797 (by decide) (by decide)).2.trans (by decide +kernel)
theorem l_798 (hS : Sh S h) : h 798 (-1) = 36 := (hS.1 798 (by decide) (by decide)).2.trans (by decide +kernel)
theorem l_799 (hS : Sh S h) : h 799 (-1) = 12 := (hS.1 799 (by decide) (by decide)).2.trans (by decide +kernel)
theorem l_800 (hS : Sh S h) : h 800 (-1) = 64 := (hS.1 800 (by decide) (by decide)).2.trans (by decide +kernel)
theorem l_801 (hS : Sh S h) : h 801 (-1) = 64 := (hS.1 801 (by decide) (by decide)).2.trans (by decide +kernel)
theorem l_802 (hS : Sh S h) : h 802 (-1) = 80 := (hS.1 802 (by decide) (by decide)).2.trans (by decide +kernel)
theorem l_803 (hS : Sh S h) : h 803 (-1) = 4000 := (hS.1 803 (by decide) (by decide)).2.trans (by decide +kernel)
theorem l_804 (hS : Sh S h) : h 804 (-1) = 2 := (hS.1 804 (by decide) (by decide)).2.trans (by decide +kernel)
theorem l_815 (hS : Sh S h) : h 815 (-1) = 4096 := (hS.1 815 (by decide) (by decide)).2.trans (by decide +kernel)
theorem l_816 (hS : Sh S h) : h 816 (-1) = 4096 := (hS.1 816 (by decide) (by decide)).2.trans (by decide +kernel)
theorem l_817 (hS : Sh S h) : h 817 (-1) = 8 := (hS.1 817 (by decide) (by decide)).2.trans (by decide +kernel)
theorem l_818 (hS : Sh S h) : h 818 (-1) = 8 := (hS.1 818 (by decide) (by decide)).2.trans (by decide +kernel)
theorem l_819 (hS : Sh S h) : h 819 (-1) = 80 := (hS.1 819 (by decide) (by decide)).2.trans (by decide +kernel)
theorem l_820 (hS : Sh S h) : h 820 (-1) = 80 := (hS.1 820 (by decide) (by decide)).2.trans (by decide +kernel)
theorem l_821 (hS : Sh S h) : h 821 (-1) = 3216 := (hS.1 821 (by decide) (by decide)).2.trans (by decide +kernel)
theorem l_822 (hS : Sh S h) : h 822 (-1) = 1024 := (hS.1 822 (by decide) (by decide)).2.trans (by decide +kernel)
theorem l_823 (hS : Sh S h) : h 823 (-1) = 1424 := (hS.1 823 (by decide) (by decide)).2.trans (by decide +kernel)
theorem l_824 (hS : Sh S h) : h 824 (-1) = 178 := (hS.1 824 (by decide) (by decide)).2.trans (by decide +kernel)
theorem l_825 (hS : Sh S h) : h 825 (-1) = 178 := (hS.1 825 (by decide) (by decide)).2.trans (by decide +kernel)
theorem l_826 (hS : Sh S h) : h 826 (-1) = 178 := (hS.1 826 (by decide) (by decide)).2.trans (by decide +kernel)
theorem l_827 (hS : Sh S h) : h 827 (-1) = 178 := (hS.1 827 (by decide) (by decide)).2.trans (by decide +kernel)
theorem l_828 (hS : Sh S h) : h 828 (-1) = 8 := (hS.1 828 (by decide) (by decide)).2.trans (by decide +kernel)
theorem l_829 (hS : Sh S h) : h 829 (-1) = 5 := (hS.1 829 (by decide) (by decide)).2.trans (by decide +kernel)
theorem l_835 (hS : Sh S h) : h 835 (-1) = 5 := (hS.1 835 (by decide) (by decide)).2.trans (by decide +kernel)
theorem l_841 (hS : Sh S h) : h 841 (-1) = 4 := (hS.1 841 (by decide) (by decide)).2.trans (by decide +kernel)
theorem l_842 (hS : Sh S h) : h 842 (-1) = 4 := (hS.1 842 (by decide) (by decide)).2.trans (by decide +kernel)
theorem l_843 (hS : Sh S h) : h 843 (-1) = 20 := (hS.1 843 (by decide) (by decide)).2.trans (by decide +kernel)
theorem l_844 (hS : Sh S h) : h 844 (-1) = 20 := (hS.1 844 (by decide) (by decide)).2.trans (by decide +kernel)
theorem l_845 (hS : Sh S h) : h 845 (-1) = 20 := (hS.1 845 (by decide) (by decide)).2.trans (by decide +kernel)
theorem l_846 (hS : Sh S h) : h 846 (-1) = 10 := (hS.1 846 (by decide) (by decide)).2.trans (by decide +kernel)
theorem l_847 (hS : Sh S h) : h 847 (-1) = 5 := (hS.1 847 (by decide) (by decide)).2.trans (by decide +kernel)
theorem l_848 (hS : Sh S h) : h 848 (-1) = 10 := (hS.1 848 (by decide) (by decide)).2.trans (by decide +kernel)
theorem l_849 (hS : Sh S h) : h 849 (-1) = 5 := (hS.1 849 (by decide) (by decide)).2.trans (by decide +kernel)
theorem l_850 (hS : Sh S h) : h 850 (-1) = 5 := (hS.1 850 (by decide) (by decide)).2.trans (by decide +kernel)
theorem l_851 (hS : Sh S h) : h 851 (-1) = 9 := (hS.1 851 (by decide) (by decide)).2.trans (by decide +kernel)
theorem l_861 (hS : Sh S h) : h 861 (-1) = 9 := (hS.1 861 (by decide) (by decide)).2.trans (by decide +kernel)
theorem l_871 (hS : Sh S h) : h 871 (-1) = 6 := (hS.1 871 (by decide) (by decide)).2.trans (by decide +kernel)
theorem l_872 (hS : Sh S h) : h 872 (-1) = 24204 := (hS.1 872 (by decide) (by decide)).2.trans (by decide +kernel)
theorem l_873 (hS : Sh S h) : h 873 (-1) = 201 := (hS.1 873 (by decide) (by decide)).2.trans (by decide +kernel)
theorem la_X16_10 {T : Int} (hS : Sh S h) (hT : isX16 T) : h (T + 5) (-1) = 36 := by
  rcases hT with rfl | rfl <;> exact (hS.1 _ (by decide) (by decide)).2.trans (by decide +kernel)
theorem la_X16_11 {T : Int} (hS : Sh S h) (hT : isX16 T) : h (T + 6) (-1) = 12 := by
  rcases hT with rfl | rfl <;> exact (hS.1 _ (by decide) (by decide)).2.trans (by decide +kernel)
theorem la_X16_13 {T : Int} (hS : Sh S h) (hT : isX16 T) : h (T + 7) (-1) = 4 := by
  rcases hT with rfl | rfl <;> exact (hS.1 _ (by decide) (by decide)).2.trans (by decide +kernel)
theorem la_X16_14 {T : Int} (hS : Sh S h) (hT : isX16 T) : h (T + 8) (-1) = 8 := by
  rcases hT with rfl | rfl <;> exact (hS.1 _ (by decide) (by decide)).2.trans (by decide +kernel)
theorem la_X16_15 {T : Int} (hS : Sh S h) (hT : isX16 T) : h (T + 9) (-1) = 4 := by
  rcases hT with rfl | rfl <;> exact (hS.1 _ (by decide) (by decide)).2.trans (by decide +kernel)
theorem la_X16_16 {T : Int} (hS : Sh S h) (hT : isX16 T) : h (T + 10) (-1) = 4 := by
  rcases hT with rfl | rfl <;> exact (hS.1 _ (by decide) (by decide)).2.trans (by decide +kernel)
theorem la_X16_19 {T : Int} (hS : Sh S h) (hT : isX16 T) : h (T + 11) (-1) = 768 := by
  rcases hT with rfl | rfl <;> exact (hS.1 _ (by decide) (by decide)).2.trans (by decide +kernel)
theorem la_X16_2 {T : Int} (hS : Sh S h) (hT : isX16 T) : h (T + 1) (-1) = 3 := by
  rcases hT with rfl | rfl <;> exact (hS.1 _ (by decide) (by decide)).2.trans (by decide +kernel)
theorem la_X16_21 {T : Int} (hS : Sh S h) (hT : isX16 T) : h (T + 12) (-1) = 122 := by
  rcases hT with rfl | rfl <;> exact (hS.1 _ (by decide) (by decide)).2.trans (by decide +kernel)
theorem la_X16_22 {T : Int} (hS : Sh S h) (hT : isX16 T) : h (T + 13) (-1) = 122 := by
  rcases hT with rfl | rfl <;> exact (hS.1 _ (by decide) (by decide)).2.trans (by decide +kernel)
theorem la_X16_23 {T : Int} (hS : Sh S h) (hT : isX16 T) : h (T + 14) (-1) = 122 := by
  rcases hT with rfl | rfl <;> exact (hS.1 _ (by decide) (by decide)).2.trans (by decide +kernel)
theorem la_X16_24 {T : Int} (hS : Sh S h) (hT : isX16 T) : h (T + 15) (-1) = 122 := by
  rcases hT with rfl | rfl <;> exact (hS.1 _ (by decide) (by decide)).2.trans (by decide +kernel)
theorem la_X16_25 {T : Int} (hS : Sh S h) (hT : isX16 T) : h (T + 16) (-1) = 122 := by
  rcases hT with rfl | rfl <;> exact (hS.1 _ (by decide) (by decide)).2.trans (by decide +kernel)
theorem la_X16_6 {T : Int} (hS : Sh S h) (hT : isX16 T) : h (T + 2) (-1) = 13 := by
  rcases hT with rfl | rfl <;> exact (hS.1 _ (by decide) (by decide)).2.trans (by decide +kernel)
theorem la_X16_7 {T : Int} (hS : Sh S h) (hT : isX16 T) : h (T + 3) (-1) = 13 := by
  rcases hT with rfl | rfl <;> exact (hS.1 _ (by decide) (by decide)).2.trans (by decide +kernel)
theorem la_X16_8 {T : Int} (hS : Sh S h) (hT : isX16 T) : h (T + 4) (-1) = 13 := by
  rcases hT with rfl | rfl <;> exact (hS.1 _ (by decide) (by decide)).2.trans (by decide +kernel)
theorem la_X17_3 {T : Int} (hS : Sh S h) (hT : isX17 T) : h (T + 2) (-1) = 3 := by
  rcases hT with rfl | rfl <;> exact (hS.1 _ (by decide) (by decide)).2.trans (by decide +kernel)
theorem la_X17_5 {T : Int} (hS : Sh S h) (hT : isX17 T) : h (T + 3) (-1) = 4 := by
  rcases hT with rfl | rfl <;> exact (hS.1 _ (by decide) (by decide)).2.trans (by decide +kernel)
theorem la_X17_7 {T : Int} (hS : Sh S h) (hT : isX17 T) : h (T + 4) (-1) = 4 := by
  rcases hT with rfl | rfl <;> exact (hS.1 _ (by decide) (by decide)).2.trans (by decide +kernel)
theorem la_X4_0 {T : Int} (hS : Sh S h) (hT : isX4 T) : h (T + 1) (-1) = 3 := by
  rcases hT with rfl | rfl <;> exact (hS.1 _ (by decide) (by decide)).2.trans (by decide +kernel)
theorem la_X4_10 {T : Int} (hS : Sh S h) (hT : isX4 T) : h (T + 7) (-1) = 12 := by
  rcases hT with rfl | rfl <;> exact (hS.1 _ (by decide) (by decide)).2.trans (by decide +kernel)
theorem la_X4_12 {T : Int} (hS : Sh S h) (hT : isX4 T) : h (T + 8) (-1) = 4 := by
  rcases hT with rfl | rfl <;> exact (hS.1 _ (by decide) (by decide)).2.trans (by decide +kernel)
theorem la_X4_13 {T : Int} (hS : Sh S h) (hT : isX4 T) : h (T + 9) (-1) = 4 := by
  rcases hT with rfl | rfl <;> exact (hS.1 _ (by decide) (by decide)).2.trans (by decide +kernel)
theorem la_X4_14 {T : Int} (hS : Sh S h) (hT : isX4 T) : h (T + 10) (-1) = 4 := by
  rcases hT with rfl | rfl <;> exact (hS.1 _ (by decide) (by decide)).2.trans (by decide +kernel)
theorem la_X4_15 {T : Int} (hS : Sh S h) (hT : isX4 T) : h (T + 11) (-1) = 8 := by
  rcases hT with rfl | rfl <;> exact (hS.1 _ (by decide) (by decide)).2.trans (by decide +kernel)
theorem la_X4_4 {T : Int} (hS : Sh S h) (hT : isX4 T) : h (T + 2) (-1) = 12 := by
  rcases hT with rfl | rfl <;> exact (hS.1 _ (by decide) (by decide)).2.trans (by decide +kernel)
theorem la_X4_5 {T : Int} (hS : Sh S h) (hT : isX4 T) : h (T + 3) (-1) = 12 := by
  rcases hT with rfl | rfl <;> exact (hS.1 _ (by decide) (by decide)).2.trans (by decide +kernel)
theorem la_X4_6 {T : Int} (hS : Sh S h) (hT : isX4 T) : h (T + 4) (-1) = 12 := by
  rcases hT with rfl | rfl <;> exact (hS.1 _ (by decide) (by decide)).2.trans (by decide +kernel)
theorem la_X4_7 {T : Int} (hS : Sh S h) (hT : isX4 T) : h (T + 5) (-1) = 12 := by
  rcases hT with rfl | rfl <;> exact (hS.1 _ (by decide) (by decide)).2.trans (by decide +kernel)
theorem la_X4_9 {T : Int} (hS : Sh S h) (hT : isX4 T) : h (T + 6) (-1) = 36 := by
  rcases hT with rfl | rfl <;> exact (hS.1 _ (by decide) (by decide)).2.trans (by decide +kernel)
theorem la_X8_0 {T : Int} (hS : Sh S h) (hT : isX8 T) : h (T + 1) (-1) = 3 := by
  rcases hT with rfl | rfl <;> exact (hS.1 _ (by decide) (by decide)).2.trans (by decide +kernel)
theorem la_X8_11 {T : Int} (hS : Sh S h) (hT : isX8 T) : h (T + 11) (-1) = 3 := by
  rcases hT with rfl | rfl <;> exact (hS.1 _ (by decide) (by decide)).2.trans (by decide +kernel)
theorem la_X8_12 {T : Int} (hS : Sh S h) (hT : isX8 T) : h (T + 12) (-1) = 3 := by
  rcases hT with rfl | rfl <;> exact (hS.1 _ (by decide) (by decide)).2.trans (by decide +kernel)
theorem la_X8_3 {T : Int} (hS : Sh S h) (hT : isX8 T) : h (T + 2) (-1) = 3 := by
  rcases hT with rfl | rfl <;> exact (hS.1 _ (by decide) (by decide)).2.trans (by decide +kernel)
theorem la_X8_4 {T : Int} (hS : Sh S h) (hT : isX8 T) : h (T + 3) (-1) = 3 := by
  rcases hT with rfl | rfl <;> exact (hS.1 _ (by decide) (by decide)).2.trans (by decide +kernel)
theorem la_X8_5 {T : Int} (hS : Sh S h) (hT : isX8 T) : h (T + 4) (-1) = 3 := by
  rcases hT with rfl | rfl <;> exact (hS.1 _ (by decide) (by decide)).2.trans (by decide +kernel)
theorem r_200_0 (hS : Sh S h) : h 200 0 = 201 := Sh_fix hS (by decide) (by decide +kernel)
theorem r_200_1 (hS : Sh S h) : h 200 1 = 258 := Sh_fix hS (by decide) (by decide +kernel)
theorem r_200_13 (hS : Sh S h) : h 200 13 = 270 := Sh_fix hS (by decide) (by decide +kernel)
theorem r_200_18 (hS : Sh S h) : h 200 18 = 307 := Sh_fix hS (by decide) (by decide +kernel)
theorem r_200_19 (hS : Sh S h) : h 200 19 = 323 := Sh_fix hS (by decide) (by decide +kernel)
theorem r_200_2 (hS : Sh S h) : h 200 2 = 264 := Sh_fix hS (by decide) (by decide +kernel)
theorem r_200_20 (hS : Sh S h) : h 200 20 = 324 := Sh_fix hS (by decide) (by decide +kernel)
theorem r_200_21 (hS : Sh S h) : h 200 21 = 330 := Sh_fix hS (by decide) (by decide +kernel)
theorem r_200_24 (hS : Sh S h) : h 200 24 = 336 := Sh_fix hS (by decide) (by decide +kernel)
theorem r_200_25 (hS : Sh S h) : h 200 25 = 338 := Sh_fix hS (by decide) (by decide +kernel)
theorem r_200_28 (hS : Sh S h) : h 200 28 = 339 := Sh_fix hS (by decide) (by decide +kernel)
theorem r_200_3 (hS : Sh S h) : h 200 3 = 265 := Sh_fix hS (by decide) (by decide +kernel)
theorem r_200_30 (hS : Sh S h) : h 200 30 = 340 := Sh_fix hS (by decide) (by decide +kernel)
theorem r_200_34 (hS : Sh S h) : h 200 34 = 353 := Sh_fix hS (by decide) (by decide +kernel)
theorem r_200_35 (hS : Sh S h) : h 200 35 = 354 := Sh_fix hS (by decide) (by decide +kernel)
theorem r_200_36 (hS : Sh S h) : h 200 36 = 355 := Sh_fix hS (by decide) (by decide +kernel)
theorem r_200_38 (hS : Sh S h) : h 200 38 = 356 := Sh_fix hS (by decide) (by decide +kernel)
theorem r_200_4 (hS : Sh S h) : h 200 4 = 266 := Sh_fix hS (by decide) (by decide +kernel)
theorem r_200_41 (hS : Sh S h) : h 200 41 = 404 := Sh_fix hS (by decide) (by decide +kernel)
theorem r_200_42 (hS : Sh S h) : h 200 42 = 405 := Sh_fix hS (by decide) (by decide +kernel)
theorem r_200_43 (hS : Sh S h) : h 200 43 = 406 := Sh_fix hS (by decide) (by decide +kernel)
theorem r_200_44 (hS : Sh S h) : h 200 44 = 407 := Sh_fix hS (by decide) (by decide +kernel)
theorem r_200_49 (hS : Sh S h) : h 200 49 = 408 := Sh_fix hS (by decide) (by decide +kernel)
theorem r_200_5 (hS : Sh S h) : h 200 5 = 267 := Sh_fix hS (by decide) (by decide +kernel)
theorem r_200_50 (hS : Sh S h) : h 200 50 = 424 := Sh_fix hS (by decide) (by decide +kernel)
theorem r_200_51 (hS : Sh S h) : h 200 51 = 431 := Sh_fix hS (by decide) (by decide +kernel)
theorem r_200_52 (hS : Sh S h) : h 200 52 = 434 := Sh_fix hS (by decide) (by decide +kernel)
theorem r_200_54 (hS : Sh S h) : h 200 54 = 440 := Sh_fix hS (by decide) (by decide +kernel)
theorem r_200_57 (hS : Sh S h) : h 200 57 = 441 := Sh_fix hS (by decide) (by decide +kernel)
theorem r_200_6 (hS : Sh S h) : h 200 6 = 268 := Sh_fix hS (by decide) (by decide +kernel)
theorem r_200_60 (hS : Sh S h) : h 200 60 = 447 := Sh_fix hS (by decide) (by decide +kernel)
theorem r_200_61 (hS : Sh S h) : h 200 61 = 448 := Sh_fix hS (by decide) (by decide +kernel)
theorem r_200_62 (hS : Sh S h) : h 200 62 = 450 := Sh_fix hS (by decide) (by decide +kernel)
theorem r_200_64 (hS : Sh S h) : h 200 64 = 452 := Sh_fix hS (by decide) (by decide +kernel)
theorem r_200_8 (hS : Sh S h) : h 200 8 = 269 := Sh_fix hS (by decide) (by decide +kernel)
theorem r_201_1 (hS : Sh S h) : h 201 1 = 203 := Sh_fix hS (by decide) (by decide +kernel)
theorem r_201_2 (hS : Sh S h) : h 201 2 = 204 := Sh_fix hS (by decide) (by decide +kernel)
theorem r_201_3 (hS : Sh S h) : h 201 3 = 205 := Sh_fix hS (by decide) (by decide +kernel)
theorem r_307_1 (hS : Sh S h) : h 307 1 = 308 := Sh_fix hS (by decide) (by decide +kernel)
theorem r_307_10 (hS : Sh S h) : h 307 10 = 315 := Sh_fix hS (by decide) (by decide +kernel)
theorem r_307_11 (hS : Sh S h) : h 307 11 = 316 := Sh_fix hS (by decide) (by decide +kernel)
theorem r_307_12 (hS : Sh S h) : h 307 12 = 317 := Sh_fix hS (by decide) (by decide +kernel)
theorem r_307_15 (hS : Sh S h) : h 307 15 = 320 := Sh_fix hS (by decide) (by decide +kernel)
theorem r_307_16 (hS : Sh S h) : h 307 16 = 321 := Sh_fix hS (by decide) (by decide +kernel)
theorem r_307_18 (hS : Sh S h) : h 307 18 = 322 := Sh_fix hS (by decide) (by decide +kernel)
theorem r_307_2 (hS : Sh S h) : h 307 2 = 309 := Sh_fix hS (by decide) (by decide +kernel)
theorem r_307_22 (hS : Sh S h) : h 307 22 = 200 := Sh_fix hS (by decide) (by decide +kernel)
theorem r_307_3 (hS : Sh S h) : h 307 3 = 310 := Sh_fix hS (by decide) (by decide +kernel)
theorem r_307_4 (hS : Sh S h) : h 307 4 = 311 := Sh_fix hS (by decide) (by decide +kernel)
theorem r_307_5 (hS : Sh S h) : h 307 5 = 312 := Sh_fix hS (by decide) (by decide +kernel)
theorem r_307_6 (hS : Sh S h) : h 307 6 = 313 := Sh_fix hS (by decide) (by decide +kernel)
theorem r_307_9 (hS : Sh S h) : h 307 9 = 314 := Sh_fix hS (by decide) (by decide +kernel)
theorem r_324_1 (hS : Sh S h) : h 324 1 = 325 := Sh_fix hS (by decide) (by decide +kernel)
theorem r_324_2 (hS : Sh S h) : h 324 2 = 326 := Sh_fix hS (by decide) (by decide +kernel)
theorem r_324_3 (hS : Sh S h) : h 324 3 = 327 := Sh_fix hS (by decide) (by decide +kernel)
theorem r_330_3 (hS : Sh S h) : h 330 3 = 333 := Sh_fix hS (by decide) (by decide +kernel)
theorem r_336_0 (hS : Sh S h) : h 336 0 = 337 := Sh_fix hS (by decide) (by decide +kernel)
theorem r_356_0 (hS : Sh S h) : h 356 0 = 357 := Sh_fix hS (by decide) (by decide +kernel)
theorem r_356_1 (hS : Sh S h) : h 356 1 = 363 := Sh_fix hS (by decide) (by decide +kernel)
theorem r_356_12 (hS : Sh S h) : h 356 12 = 377 := Sh_fix hS (by decide) (by decide +kernel)
theorem r_356_13 (hS : Sh S h) : h 356 13 = 200 := Sh_fix hS (by decide) (by decide +kernel)
theorem r_356_3 (hS : Sh S h) : h 356 3 = 369 := Sh_fix hS (by decide) (by decide +kernel)
theorem r_356_4 (hS : Sh S h) : h 356 4 = 371 := Sh_fix hS (by decide) (by decide +kernel)
theorem r_356_6 (hS : Sh S h) : h 356 6 = 373 := Sh_fix hS (by decide) (by decide +kernel)
theorem r_356_7 (hS : Sh S h) : h 356 7 = 374 := Sh_fix hS (by decide) (by decide +kernel)
theorem r_356_8 (hS : Sh S h) : h 356 8 = 375 := Sh_fix hS (by decide) (by decide +kernel)
theorem r_356_9 (hS : Sh S h) : h 356 9 = 376 := Sh_fix hS (by decide) (by decide +kernel)
theorem r_357_1 (hS : Sh S h) : h 357 1 = 358 := Sh_fix hS (by decide) (by decide +kernel)
theorem r_357_2 (hS : Sh S h) : h 357 2 = 359 := Sh_fix hS (by decide) (by decide +kernel)
theorem r_363_3 (hS : Sh S h) : h 363 3 = 366 := Sh_fix hS (by decide) (by decide +kernel)
theorem r_369_0 (hS : Sh S h) : h 369 0 = 370 := Sh_fix hS (by decide) (by decide +kernel)
theorem r_371_0 (hS : Sh S h) : h 371 0 = 372 := Sh_fix hS (by decide) (by decide +kernel)
theorem r_408_1 (hS : Sh S h) : h 408 1 = 409 := Sh_fix hS (by decide) (by decide +kernel)
theorem r_408_12 (hS : Sh S h) : h 408 12 = 417 := Sh_fix hS (by decide) (by decide +kernel)
theorem r_408_13 (hS : Sh S h) : h 408 13 = 418 := Sh_fix hS (by decide) (by decide +kernel)
theorem r_408_14 (hS : Sh S h) : h 408 14 = 419 := Sh_fix hS (by decide) (by decide +kernel)
theorem r_408_15 (hS : Sh S h) : h 408 15 = 420 := Sh_fix hS (by decide) (by decide +kernel)
theorem r_408_17 (hS : Sh S h) : h 408 17 = 421 := Sh_fix hS (by decide) (by decide +kernel)
theorem r_408_18 (hS : Sh S h) : h 408 18 = 422 := Sh_fix hS (by decide) (by decide +kernel)
theorem r_408_19 (hS : Sh S h) : h 408 19 = 423 := Sh_fix hS (by decide) (by decide +kernel)
theorem r_408_2 (hS : Sh S h) : h 408 2 = 410 := Sh_fix hS (by decide) (by decide +kernel)
theorem r_408_3 (hS : Sh S h) : h 408 3 = 411 := Sh_fix hS (by decide) (by decide +kernel)
theorem r_408_4 (hS : Sh S h) : h 408 4 = 412 := Sh_fix hS (by decide) (by decide +kernel)
theorem r_408_5 (hS : Sh S h) : h 408 5 = 413 := Sh_fix hS (by decide) (by decide +kernel)
theorem r_408_6 (hS : Sh S h) : h 408 6 = 414 := Sh_fix hS (by decide) (by decide +kernel)
theorem r_408_7 (hS : Sh S h) : h 408 7 = 415 := Sh_fix hS (by decide) (by decide +kernel)
theorem r_408_8 (hS : Sh S h) : h 408 8 = 416 := Sh_fix hS (by decide) (by decide +kernel)
theorem r_424_1 (hS : Sh S h) : h 424 1 = 425 := Sh_fix hS (by decide) (by decide +kernel)
theorem r_424_2 (hS : Sh S h) : h 424 2 = 426 := Sh_fix hS (by decide) (by decide +kernel)
theorem r_424_4 (hS : Sh S h) : h 424 4 = 427 := Sh_fix hS (by decide) (by decide +kernel)
theorem r_424_5 (hS : Sh S h) : h 424 5 = 428 := Sh_fix hS (by decide) (by decide +kernel)
theorem r_424_6 (hS : Sh S h) : h 424 6 = 429 := Sh_fix hS (by decide) (by decide +kernel)
theorem r_424_7 (hS : Sh S h) : h 424 7 = 430 := Sh_fix hS (by decide) (by decide +kernel)
theorem r_431_1 (hS : Sh S h) : h 431 1 = 432 := Sh_fix hS (by decide) (by decide +kernel)
theorem r_431_2 (hS : Sh S h) : h 431 2 = 433 := Sh_fix hS (by decide) (by decide +kernel)
theorem r_434_0 (hS : Sh S h) : h 434 0 = 435 := Sh_fix hS (by decide) (by decide +kernel)
theorem r_434_1 (hS : Sh S h) : h 434 1 = 436 := Sh_fix hS (by decide) (by decide +kernel)
theorem r_434_10 (hS : Sh S h) : h 434 10 = 439 := Sh_fix hS (by decide) (by decide +kernel)
theorem r_434_11 (hS : Sh S h) : h 434 11 = 200 := Sh_fix hS (by decide) (by decide +kernel)
theorem r_434_2 (hS : Sh S h) : h 434 2 = 437 := Sh_fix hS (by decide) (by decide +kernel)
theorem r_434_3 (hS : Sh S h) : h 434 3 = 438 := Sh_fix hS (by decide) (by decide +kernel)
theorem r_441_10 (hS : Sh S h) : h 441 10 = 442 := Sh_fix hS (by decide) (by decide +kernel)
theorem r_441_11 (hS : Sh S h) : h 441 11 = 443 := Sh_fix hS (by decide) (by decide +kernel)
theorem r_441_12 (hS : Sh S h) : h 441 12 = 444 := Sh_fix hS (by decide) (by decide +kernel)
theorem r_441_19 (hS : Sh S h) : h 441 19 = 445 := Sh_fix hS (by decide) (by decide +kernel)
theorem r_441_25 (hS : Sh S h) : h 441 25 = 446 := Sh_fix hS (by decide) (by decide +kernel)
theorem r_441_26 (hS : Sh S h) : h 441 26 = 200 := Sh_fix hS (by decide) (by decide +kernel)
theorem r_448_0 (hS : Sh S h) : h 448 0 = 449 := Sh_fix hS (by decide) (by decide +kernel)
theorem r_450_0 (hS : Sh S h) : h 450 0 = 451 := Sh_fix hS (by decide) (by decide +kernel)
theorem r_452_0 (hS : Sh S h) : h 452 0 = 453 := Sh_fix hS (by decide) (by decide +kernel)
theorem r_454_0 (hS : Sh S h) : h 454 0 = 455 := Sh_fix hS (by decide) (by decide +kernel)
theorem r_454_1 (hS : Sh S h) : h 454 1 = 456 := Sh_fix hS (by decide) (by decide +kernel)
theorem r_454_10 (hS : Sh S h) : h 454 10 = 464 := Sh_fix hS (by decide) (by decide +kernel)
theorem r_454_11 (hS : Sh S h) : h 454 11 = 465 := Sh_fix hS (by decide) (by decide +kernel)
theorem r_454_110 (hS : Sh S h) : h 454 110 = 817 := Sh_fix hS (by decide) (by decide +kernel)
theorem r_454_111 (hS : Sh S h) : h 454 111 = 818 := Sh_fix hS (by decide) (by decide +kernel)
theorem r_454_112 (hS : Sh S h) : h 454 112 = 819 := Sh_fix hS (by decide) (by decide +kernel)
theorem r_454_113 (hS : Sh S h) : h 454 113 = 820 := Sh_fix hS (by decide) (by decide +kernel)
theorem r_454_115 (hS : Sh S h) : h 454 115 = 821 := Sh_fix hS (by decide) (by decide +kernel)
theorem r_454_116 (hS : Sh S h) : h 454 116 = 822 := Sh_fix hS (by decide) (by decide +kernel)
theorem r_454_117 (hS : Sh S h) : h 454 117 = 823 := Sh_fix hS (by decide) (by decide +kernel)
theorem r_454_118 (hS : Sh S h) : h 454 118 = 824 := Sh_fix hS (by decide) (by decide +kernel)
theorem r_454_119 (hS : Sh S h) : h 454 119 = 825 := Sh_fix hS (by decide) (by decide +kernel)
theorem r_454_12 (hS : Sh S h) : h 454 12 = 466 := Sh_fix hS (by decide) (by decide +kernel)
theorem r_454_120 (hS : Sh S h) : h 454 120 = 826 := Sh_fix hS (by decide) (by decide +kernel)
theorem r_454_121 (hS : Sh S h) : h 454 121 = 827 := Sh_fix hS (by decide) (by decide +kernel)
theorem r_454_122 (hS : Sh S h) : h 454 122 = 828 := Sh_fix hS (by decide) (by decide +kernel)
theorem r_454_123 (hS : Sh S h) : h 454 123 = 829 := Sh_fix hS (by decide) (by decide +kernel)
theorem r_454_124 (hS : Sh S h) : h 454 124 = 835 := Sh_fix hS (by decide) (by decide +kernel)
theorem r_454_126 (hS : Sh S h) : h 454 126 = 841 := Sh_fix hS (by decide) (by decide +kernel)
theorem r_454_127 (hS : Sh S h) : h 454 127 = 842 := Sh_fix hS (by decide) (by decide +kernel)
theorem r_454_129 (hS : Sh S h) : h 454 129 = 843 := Sh_fix hS (by decide) (by decide +kernel)
theorem r_454_13 (hS : Sh S h) : h 454 13 = 467 := Sh_fix hS (by decide) (by decide +kernel)
theorem r_454_130 (hS : Sh S h) : h 454 130 = 844 := Sh_fix hS (by decide) (by decide +kernel)
theorem r_454_131 (hS : Sh S h) : h 454 131 = 845 := Sh_fix hS (by decide) (by decide +kernel)
theorem r_454_132 (hS : Sh S h) : h 454 132 = 846 := Sh_fix hS (by decide) (by decide +kernel)
theorem r_454_133 (hS : Sh S h) : h 454 133 = 847 := Sh_fix hS (by decide) (by decide +kernel)
theorem r_454_135 (hS : Sh S h) : h 454 135 = 848 := Sh_fix hS (by decide) (by decide +kernel)
theorem r_454_136 (hS : Sh S h) : h 454 136 = 849 := Sh_fix hS (by decide) (by decide +kernel)
theorem r_454_138 (hS : Sh S h) : h 454 138 = 850 := Sh_fix hS (by decide) (by decide +kernel)
theorem r_454_139 (hS : Sh S h) : h 454 139 = 851 := Sh_fix hS (by decide) (by decide +kernel)
theorem r_454_14 (hS : Sh S h) : h 454 14 = 468 := Sh_fix hS (by decide) (by decide +kernel)
theorem r_454_140 (hS : Sh S h) : h 454 140 = 861 := Sh_fix hS (by decide) (by decide +kernel)
theorem r_454_147 (hS : Sh S h) : h 454 147 = 871 := Sh_fix hS (by decide) (by decide +kernel)
theorem r_454_15 (hS : Sh S h) : h 454 15 = 469 := Sh_fix hS (by decide) (by decide +kernel)
theorem r_454_155 (hS : Sh S h) : h 454 155 = 872 := Sh_fix hS (by decide) (by decide +kernel)
theorem r_454_157 (hS : Sh S h) : h 454 157 = 873 := Sh_fix hS (by decide) (by decide +kernel)
theorem r_454_158 (hS : Sh S h) : h 454 158 = 1075 := Sh_fix hS (by decide) (by decide +kernel)
theorem r_454_159 (hS : Sh S h) : h 454 159 = 1076 := Sh_fix hS (by decide) (by decide +kernel)
theorem r_454_16 (hS : Sh S h) : h 454 16 = 470 := Sh_fix hS (by decide) (by decide +kernel)
theorem r_454_18 (hS : Sh S h) : h 454 18 = 471 := Sh_fix hS (by decide) (by decide +kernel)
theorem r_454_2 (hS : Sh S h) : h 454 2 = 457 := Sh_fix hS (by decide) (by decide +kernel)
theorem r_454_23 (hS : Sh S h) : h 454 23 = 472 := Sh_fix hS (by decide) (by decide +kernel)
theorem r_454_24 (hS : Sh S h) : h 454 24 = 473 := Sh_fix hS (by decide) (by decide +kernel)
theorem r_454_3 (hS : Sh S h) : h 454 3 = 458 := Sh_fix hS (by decide) (by decide +kernel)
theorem r_454_32 (hS : Sh S h) : h 454 32 = 474 := Sh_fix hS (by decide) (by decide +kernel)
theorem r_454_33 (hS : Sh S h) : h 454 33 = 475 := Sh_fix hS (by decide) (by decide +kernel)
theorem r_454_36 (hS : Sh S h) : h 454 36 = 476 := Sh_fix hS (by decide) (by decide +kernel)
theorem r_454_37 (hS : Sh S h) : h 454 37 = 615 := Sh_fix hS (by decide) (by decide +kernel)
theorem r_454_39 (hS : Sh S h) : h 454 39 = 754 := Sh_fix hS (by decide) (by decide +kernel)
theorem r_454_4 (hS : Sh S h) : h 454 4 = 459 := Sh_fix hS (by decide) (by decide +kernel)
theorem r_454_41 (hS : Sh S h) : h 454 41 = 755 := Sh_fix hS (by decide) (by decide +kernel)
theorem r_454_42 (hS : Sh S h) : h 454 42 = 769 := Sh_fix hS (by decide) (by decide +kernel)
theorem r_454_45 (hS : Sh S h) : h 454 45 = 786 := Sh_fix hS (by decide) (by decide +kernel)
theorem r_454_46 (hS : Sh S h) : h 454 46 = 787 := Sh_fix hS (by decide) (by decide +kernel)
theorem r_454_47 (hS : Sh S h) : h 454 47 = 788 := Sh_fix hS (by decide) (by decide +kernel)
theorem r_454_48 (hS : Sh S h) : h 454 48 = 789 := Sh_fix hS (by decide) (by decide +kernel)
theorem r_454_52 (hS : Sh S h) : h 454 52 = 790 := Sh_fix hS (by decide) (by decide +kernel)
theorem r_454_57 (hS : Sh S h) : h 454 57 = 791 := Sh_fix hS (by decide) (by decide +kernel)
theorem r_454_59 (hS : Sh S h) : h 454 59 = 792 := Sh_fix hS (by decide) (by decide +kernel)
theorem r_454_6 (hS : Sh S h) : h 454 6 = 460 := Sh_fix hS (by decide) (by decide +kernel)
theorem r_454_61 (hS : Sh S h) : h 454 61 = 793 := Sh_fix hS (by decide) (by decide +kernel)
theorem r_454_65 (hS : Sh S h) : h 454 65 = 794 := Sh_fix hS (by decide) (by decide +kernel)
theorem r_454_7 (hS : Sh S h) : h 454 7 = 461 := Sh_fix hS (by decide) (by decide +kernel)
theorem r_454_70 (hS : Sh S h) : h 454 70 = 795 := Sh_fix hS (by decide) (by decide +kernel)
theorem r_454_72 (hS : Sh S h) : h 454 72 = 796 := Sh_fix hS (by decide) (by decide +kernel)
theorem r_454_74 (hS : Sh S h) : h 454 74 = 797 := Sh_fix hS (by decide) (by decide +kernel)
theorem r_454_75 (hS : Sh S h) : h 454 75 = 798 := Sh_fix hS (by decide) (by decide +kernel)
theorem r_454_76 (hS : Sh S h) : h 454 76 = 799 := Sh_fix hS (by decide) (by decide +kernel)
theorem r_454_79 (hS : Sh S h) : h 454 79 = 800 := Sh_fix hS (by decide) (by decide +kernel)
theorem r_454_8 (hS : Sh S h) : h 454 8 = 462 := Sh_fix hS (by decide) (by decide +kernel)
theorem r_454_80 (hS : Sh S h) : h 454 80 = 801 := Sh_fix hS (by decide) (by decide +kernel)
theorem r_454_82 (hS : Sh S h) : h 454 82 = 802 := Sh_fix hS (by decide) (by decide +kernel)
theorem r_454_86 (hS : Sh S h) : h 454 86 = 803 := Sh_fix hS (by decide) (by decide +kernel)
theorem r_454_88 (hS : Sh S h) : h 454 88 = 804 := Sh_fix hS (by decide) (by decide +kernel)
theorem r_454_9 (hS : Sh S h) : h 454 9 = 463 := Sh_fix hS (by decide) (by decide +kernel)
theorem r_454_90 (hS : Sh S h) : h 454 90 = 805 := Sh_fix hS (by decide) (by decide +kernel)
theorem r_454_91 (hS : Sh S h) : h 454 91 = 810 := Sh_fix hS (by decide) (by decide +kernel)
theorem r_454_96 (hS : Sh S h) : h 454 96 = 815 := Sh_fix hS (by decide) (by decide +kernel)
theorem r_454_98 (hS : Sh S h) : h 454 98 = 816 := Sh_fix hS (by decide) (by decide +kernel)
theorem rge_755 (hi : jI i 13) : 200 ≤ 756 + i := by unfold jI at hi; omega
theorem rge_829 (hi : jI i 5) : 200 ≤ 830 + i := by unfold jI at hi; omega
theorem rge_835 (hi : jI i 5) : 200 ≤ 836 + i := by unfold jI at hi; omega
theorem rge_851 (hi : jI i 9) : 200 ≤ 852 + i := by unfold jI at hi; omega
theorem rge_861 (hi : jI i 9) : 200 ≤ 862 + i := by unfold jI at hi; omega
theorem rge_873 (hi : jI i 201) : 200 ≤ 874 + i := by unfold jI at hi; omega
theorem rgeo_X16_25 {T : Int} (hT : isX16 T) (hi : jI i 122) : 200 ≤ T + 17 + i := by
  unfold jI at hi
  have hg := ge_X16 hT
  omega
theorem rk_755_n : ∀ n : Nat, n < 13 → kd (756 + (n : Int)) = 102 := by decide +kernel
theorem rk_755 (hS : Sh S h) (hi : jI i 13) : h (756 + i) (-2) = 102 := by
  unfold jI at hi
  obtain ⟨n, rfl⟩ : ∃ n : Nat, i = (n : Int) := ⟨i.toNat, by omega⟩
  exact (hS.1 _ (by omega) (by omega)).1.trans (rk_755_n n (by omega))
theorem rk_829_n : ∀ n : Nat, n < 5 → kd (830 + (n : Int)) = 102 := by decide +kernel
theorem rk_829 (hS : Sh S h) (hi : jI i 5) : h (830 + i) (-2) = 102 := by
  unfold jI at hi
  obtain ⟨n, rfl⟩ : ∃ n : Nat, i = (n : Int) := ⟨i.toNat, by omega⟩
  exact (hS.1 _ (by omega) (by omega)).1.trans (rk_829_n n (by omega))
theorem rk_835_n : ∀ n : Nat, n < 5 → kd (836 + (n : Int)) = 101 := by decide +kernel
theorem rk_835 (hS : Sh S h) (hi : jI i 5) : h (836 + i) (-2) = 101 := by
  unfold jI at hi
  obtain ⟨n, rfl⟩ : ∃ n : Nat, i = (n : Int) := ⟨i.toNat, by omega⟩
  exact (hS.1 _ (by omega) (by omega)).1.trans (rk_835_n n (by omega))
theorem rk_851_n : ∀ n : Nat, n < 9 → kd (852 + (n : Int)) = 101 := by decide +kernel
theorem rk_851 (hS : Sh S h) (hi : jI i 9) : h (852 + i) (-2) = 101 := by
  unfold jI at hi
  obtain ⟨n, rfl⟩ : ∃ n : Nat, i = (n : Int) := ⟨i.toNat, by omega⟩
  exact (hS.1 _ (by omega) (by omega)).1.trans (rk_851_n n (by omega))
theorem rk_861_n : ∀ n : Nat, n < 9 → kd (862 + (n : Int)) = 101 := by decide +kernel
theorem rk_861 (hS : Sh S h) (hi : jI i 9) : h (862 + i) (-2) = 101 := by
  unfold jI at hi
  obtain ⟨n, rfl⟩ : ∃ n : Nat, i = (n : Int) := ⟨i.toNat, by omega⟩
  exact (hS.1 _ (by omega) (by omega)).1.trans (rk_861_n n (by omega))
theorem rk_873_n : ∀ n : Nat, n < 201 → kd (874 + (n : Int)) = 101 := by decide +kernel
theorem rk_873 (hS : Sh S h) (hi : jI i 201) : h (874 + i) (-2) = 101 := by
  unfold jI at hi
  obtain ⟨n, rfl⟩ : ∃ n : Nat, i = (n : Int) := ⟨i.toNat, by omega⟩
  exact (hS.1 _ (by omega) (by omega)).1.trans (rk_873_n n (by omega))
theorem rko_X16_25_n476 : ∀ n : Nat, n < 122 → kd (493 + (n : Int)) = 101 := by decide +kernel
theorem rko_X16_25_n615 : ∀ n : Nat, n < 122 → kd (632 + (n : Int)) = 101 := by decide +kernel
theorem rko_X16_25 {T : Int} (hS : Sh S h) (hT : isX16 T) (hi : jI i 122) : h (T + 17 + i) (-2) = 101 := by
  unfold jI at hi
  obtain ⟨n, rfl⟩ : ∃ n : Nat, i = (n : Int) := ⟨i.toNat, by omega⟩
  rcases hT with rfl | rfl
  · exact ((hS.1 _ (by omega) (by omega)).1.trans (rko_X16_25_n476 n (by omega)))
  · exact ((hS.1 _ (by omega) (by omega)).1.trans (rko_X16_25_n615 n (by omega)))
theorem rl_755_n : ∀ n : Nat, n < 13 → ln (756 + (n : Int)) = 122 := by decide +kernel
theorem rl_755 (hS : Sh S h) (hi : jI i 13) : h (756 + i) (-1) = 122 := by
  unfold jI at hi
  obtain ⟨n, rfl⟩ : ∃ n : Nat, i = (n : Int) := ⟨i.toNat, by omega⟩
  exact (hS.1 _ (by omega) (by omega)).2.trans (rl_755_n n (by omega))
theorem rl_829_n : ∀ n : Nat, n < 5 → ln (830 + (n : Int)) = 402 := by decide +kernel
theorem rl_829 (hS : Sh S h) (hi : jI i 5) : h (830 + i) (-1) = 402 := by
  unfold jI at hi
  obtain ⟨n, rfl⟩ : ∃ n : Nat, i = (n : Int) := ⟨i.toNat, by omega⟩
  exact (hS.1 _ (by omega) (by omega)).2.trans (rl_829_n n (by omega))
theorem rl_835_n : ∀ n : Nat, n < 5 → ln (836 + (n : Int)) = 402 := by decide +kernel
theorem rl_835 (hS : Sh S h) (hi : jI i 5) : h (836 + i) (-1) = 402 := by
  unfold jI at hi
  obtain ⟨n, rfl⟩ : ∃ n : Nat, i = (n : Int) := ⟨i.toNat, by omega⟩
  exact (hS.1 _ (by omega) (by omega)).2.trans (rl_835_n n (by omega))
theorem rl_851_n : ∀ n : Nat, n < 9 → ln (852 + (n : Int)) = 16 := by decide +kernel
theorem rl_851 (hS : Sh S h) (hi : jI i 9) : h (852 + i) (-1) = 16 := by
  unfold jI at hi
  obtain ⟨n, rfl⟩ : ∃ n : Nat, i = (n : Int) := ⟨i.toNat, by omega⟩
  exact (hS.1 _ (by omega) (by omega)).2.trans (rl_851_n n (by omega))
theorem rl_861_n : ∀ n : Nat, n < 9 → ln (862 + (n : Int)) = 16 := by decide +kernel
theorem rl_861 (hS : Sh S h) (hi : jI i 9) : h (862 + i) (-1) = 16 := by
  unfold jI at hi
  obtain ⟨n, rfl⟩ : ∃ n : Nat, i = (n : Int) := ⟨i.toNat, by omega⟩
  exact (hS.1 _ (by omega) (by omega)).2.trans (rl_861_n n (by omega))
theorem rl_873_n : ∀ n : Nat, n < 201 → ln (874 + (n : Int)) = 128 := by decide +kernel
theorem rl_873 (hS : Sh S h) (hi : jI i 201) : h (874 + i) (-1) = 128 := by
  unfold jI at hi
  obtain ⟨n, rfl⟩ : ∃ n : Nat, i = (n : Int) := ⟨i.toNat, by omega⟩
  exact (hS.1 _ (by omega) (by omega)).2.trans (rl_873_n n (by omega))
theorem rlo_X16_25_n476 : ∀ n : Nat, n < 122 → ln (493 + (n : Int)) = 256 := by decide +kernel
theorem rlo_X16_25_n615 : ∀ n : Nat, n < 122 → ln (632 + (n : Int)) = 256 := by decide +kernel
theorem rlo_X16_25 {T : Int} (hS : Sh S h) (hT : isX16 T) (hi : jI i 122) : h (T + 17 + i) (-1) = 256 := by
  unfold jI at hi
  obtain ⟨n, rfl⟩ : ∃ n : Nat, i = (n : Int) := ⟨i.toNat, by omega⟩
  rcases hT with rfl | rfl
  · exact ((hS.1 _ (by omega) (by omega)).2.trans (rlo_X16_25_n476 n (by omega)))
  · exact ((hS.1 _ (by omega) (by omega)).2.trans (rlo_X16_25_n615 n (by omega)))
theorem rr_755 (hS : Sh S h) (hi : jI i 13) : h 755 i = 756 + i := by
  refine Sh_fix hS (by unfold jI at hi; omega) ?_
  unfold rf
  rw [if_neg (by decide +kernel), if_neg (by decide +kernel)]
  unfold ra
  rw [if_neg (by decide), if_neg (by decide), if_neg (by decide), if_pos rfl, if_pos (And.intro hi.1 hi.2)]
theorem rr_769 (hS : Sh S h) (hi : jI i 16) : h 769 i = 770 + i := by
  refine Sh_fix hS (by unfold jI at hi; omega) ?_
  unfold rf
  rw [if_neg (by decide +kernel), if_neg (by decide +kernel)]
  unfold ra
  rw [if_neg (by decide), if_neg (by decide), if_neg (by decide), if_neg (by decide), if_pos rfl, if_pos (And.intro hi.1 hi.2)]
theorem rr_829 (hS : Sh S h) (hi : jI i 5) : h 829 i = 830 + i := by
  refine Sh_fix hS (by unfold jI at hi; omega) ?_
  unfold rf
  rw [if_neg (by decide +kernel), if_neg (by decide +kernel)]
  unfold ra
  rw [if_neg (by decide), if_neg (by decide), if_neg (by decide), if_neg (by decide), if_neg (by decide), if_pos rfl, if_pos (And.intro hi.1 hi.2)]
theorem rr_835 (hS : Sh S h) (hi : jI i 5) : h 835 i = 836 + i := by
  refine Sh_fix hS (by unfold jI at hi; omega) ?_
  unfold rf
  rw [if_neg (by decide +kernel), if_neg (by decide +kernel)]
  unfold ra
  rw [if_neg (by decide), if_neg (by decide), if_neg (by decide), if_neg (by decide), if_neg (by decide), if_neg (by decide), if_pos rfl, if_pos (And.intro hi.1 hi.2)]
theorem rr_851 (hS : Sh S h) (hi : jI i 9) : h 851 i = 852 + i := by
  refine Sh_fix hS (by unfold jI at hi; omega) ?_
  unfold rf
  rw [if_neg (by decide +kernel), if_neg (by decide +kernel)]
  unfold ra
  rw [if_neg (by decide), if_neg (by decide), if_neg (by decide), if_neg (by decide), if_neg (by decide), if_neg (by decide), if_neg (by decide), if_pos rfl, if_pos (And.intro hi.1 hi.2)]
theorem rr_861 (hS : Sh S h) (hi : jI i 9) : h 861 i = 862 + i := by
  refine Sh_fix hS (by unfold jI at hi; omega) ?_
  unfold rf
  rw [if_neg (by decide +kernel), if_neg (by decide +kernel)]
  unfold ra
  rw [if_neg (by decide), if_neg (by decide), if_neg (by decide), if_neg (by decide), if_neg (by decide), if_neg (by decide), if_neg (by decide), if_neg (by decide), if_pos rfl, if_pos (And.intro hi.1 hi.2)]
theorem rr_873 (hS : Sh S h) (hi : jI i 201) : h 873 i = 874 + i := by
  refine Sh_fix hS (by unfold jI at hi; omega) ?_
  unfold rf
  rw [if_neg (by decide +kernel), if_neg (by decide +kernel)]
  unfold ra
  rw [if_neg (by decide), if_neg (by decide), if_neg (by decide), if_neg (by decide), if_neg (by decide), if_neg (by decide), if_neg (by decide), if_neg (by decide), if_neg (by decide), if_pos rfl, if_pos (And.intro hi.1 hi.2)]
theorem rro_X16_25 {T : Int} (hS : Sh S h) (hT : isX16 T) (hi : jI i 122) : h (T + 16) i = T + 17 + i := by
  have hi2 := hi
  unfold jI at hi2
  have hg := ge_X16 hT
  refine Sh_fix hS (by omega) ?_
  rcases hT with rfl | rfl
  · unfold rf
    rw [if_neg (by decide +kernel), if_neg (by decide +kernel)]
    unfold ra
    rw [if_neg (by decide), if_pos (by decide), if_pos (And.intro hi.1 hi.2)]
    omega
  · unfold rf
    rw [if_neg (by decide +kernel), if_neg (by decide +kernel)]
    unfold ra
    rw [if_neg (by decide), if_neg (by decide), if_pos (by decide), if_pos (And.intro hi.1 hi.2)]
    omega
theorem sub_X4_16 {T : Int} (hT : isX4 T) : isX3 (T + 12) := by
  rcases hT with rfl | rfl <;> (unfold isX3; decide)
theorem sub_X8_8 {T : Int} (hT : isX8 T) : isX3 (T + 5) := by
  rcases hT with rfl | rfl <;> (unfold isX3; decide)
end SHS
